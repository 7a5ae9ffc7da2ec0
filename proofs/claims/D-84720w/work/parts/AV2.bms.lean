set_option maxRecDepth 100000
theorem gfb_of0 {m : Nat} {f : gFn ⊕ gFt} (h : gffr 0 f) : gfb m f := fun n as σ σ' x e hb => by
  have q : σ' = σ := funext fun a => funext fun k => h n as σ σ' x e a k (by unfold gbit; rw [Nat.zero_shiftRight]; rfl)
  rw [q]
  exact hb
theorem bm_wl_of {m : Nat} : gfb m (.inl (fn_wl_of m)) := gF_b8 (E := e_wl_of m) rfl rfl ⟨(gfb_of0 fm_jl_signum), (gfb_of0 fm_jm_abs), trivial⟩
theorem bm_wl_settle {m : Nat} : gfb m (.inl (fn_wl_settle m)) := gF_b8 (E := e_wl_settle m) rfl rfl trivial
theorem bm_wl_more {m : Nat} : gfb m (.inl (fn_wl_more m)) := gF_b8 (E := e_wl_more m) rfl rfl ⟨bm_wl_settle, trivial⟩
theorem bm_wl_digit {m : Nat} : gfb m (.inl (fn_wl_digit m)) := gF_b8 (E := e_wl_digit m) rfl rfl trivial
theorem bm_wl_digits {m : Nat} : gfb m (.inl (fn_wl_digits m)) := gF_b8 (E := e_wl_digits m) rfl rfl ⟨bm_wl_digit, trivial⟩
theorem bm_wl_isLong {m : Nat} : gfb m (.inl (fn_wl_isLong m)) := gF_b8 (E := e_wl_isLong m) rfl rfl ⟨bm_wl_digits, bm_wl_digit, (gfb_of0 fm_jm_multiplyHigh), trivial⟩
theorem bm_wl_size {m : Nat} : gfb m (.inl (fn_wl_size m)) := gF_b8 (E := e_wl_size m) rfl rfl trivial
theorem bm_wl_compare {m : Nat} : gfb m (.inl (fn_wl_compare m)) := gF_b8 (E := e_wl_compare m) rfl rfl ⟨bm_wl_size, trivial⟩
theorem bm_wl_of_2 {m : Nat} : gfb m (.inl (fn_wl_of_2 m)) := gF_b8 (E := e_wl_of_2 m) rfl rfl trivial
theorem bm_wl_less {m : Nat} : gfb m (.inl (fn_wl_less m)) := gF_b8 (E := e_wl_less m) rfl rfl trivial
theorem bm_wl_sum {m : Nat} : gfb m (.inl (fn_wl_sum m)) := gF_b8 (E := e_wl_sum m) rfl rfl ⟨bm_wl_of_2, bm_wl_settle, bm_wl_size, bm_wl_less, trivial⟩
theorem bm_wl_product {m : Nat} : gfb m (.inl (fn_wl_product m)) := gF_b8 (E := e_wl_product m) rfl rfl ⟨bm_wl_settle, trivial⟩
theorem bm_wl_quotient {m : Nat} : gfb m (.inl (fn_wl_quotient m)) := gF_b8 (E := e_wl_quotient m) rfl rfl ⟨bm_wl_of, bm_wl_digit, bm_wl_more, bm_wl_size, bm_wl_less, bm_wl_settle, trivial⟩
theorem bm_hp_begin {m : Nat} : gfb m (.inl (fn_hp_begin m)) := gF_b8 (E := e_hp_begin m) rfl rfl trivial
theorem bm_hp_clear {m : Nat} : gfb m (.inl (fn_hp_clear m)) := gF_b8 (E := e_hp_clear m) rfl rfl ⟨bm_hp_begin, trivial⟩
theorem bm_hp_is {m : Nat} : gfb m (.inl (fn_hp_is m)) := gF_b8 (E := e_hp_is m) rfl rfl trivial
theorem bm_hp_string {m : Nat} : gfb m (.inl (fn_hp_string m)) := gF_b8 (E := e_hp_string m) rfl rfl ⟨bm_hp_is, gfb_copy, trivial⟩
theorem bm_hp_whole {m : Nat} : gfb m (.inl (fn_hp_whole m)) := gF_b8 (E := e_hp_whole m) rfl rfl trivial
theorem bm_hp_get {m : Nat} : gfb m (.inl (fn_hp_get m)) := gF_b8 (E := e_hp_get m) rfl rfl trivial
theorem bm_hp_isSame {m : Nat} : gfb m (.inl (fn_hp_isSame m)) := gF_b8 (E := e_hp_isSame m) rfl rfl ⟨bm_hp_is, trivial⟩
theorem bm_hp_lay {m : Nat} : gfb m (.inl (fn_hp_lay m)) := gF_b8 (E := e_hp_lay m) rfl rfl trivial
theorem bm_hp_put {m : Nat} : gfb m (.inl (fn_hp_put m)) := gF_b8 (E := e_hp_put m) rfl rfl trivial
theorem bm_hp_laidLetters {m : Nat} : gfb m (.inl (fn_hp_laidLetters m)) := gF_b8 (E := e_hp_laidLetters m) rfl rfl trivial
theorem bm_hp_makes {m : Nat} : gfb m (.inl (fn_hp_makes m)) := gF_b8 (E := e_hp_makes m) rfl rfl trivial
theorem bm_hp_laidString {m : Nat} : gfb m (.inl (fn_hp_laidString m)) := gF_b8 (E := e_hp_laidString m) rfl rfl trivial
theorem bm_tk_byteAt {m : Nat} : gfb m (.inl (fn_tk_byteAt m)) := gF_b8 (E := e_tk_byteAt m) rfl rfl trivial
theorem bm_tk_skip {m : Nat} : gfb m (.inl (fn_tk_skip m)) := gF_b8 (E := e_tk_skip m) rfl rfl ⟨bm_tk_byteAt, trivial⟩
theorem bm_tk_isLetter {m : Nat} : gfb m (.inl (fn_tk_isLetter m)) := gF_b8 (E := e_tk_isLetter m) rfl rfl trivial
theorem bm_tk_isDigit {m : Nat} : gfb m (.inl (fn_tk_isDigit m)) := gF_b8 (E := e_tk_isDigit m) rfl rfl trivial
theorem bm_tk_word {m : Nat} : gfb m (.inl (fn_tk_word m)) := gF_b8 (E := e_tk_word m) rfl rfl ⟨(gfb_of0 fm_st_length), (gfb_of0 fm_st_indexOf), (gfb_of0 fm_st_charAt), bm_tk_byteAt, trivial⟩
theorem bm_tk_isWord {m : Nat} : gfb m (.inl (fn_tk_isWord m)) := gF_b8 (E := e_tk_isWord m) rfl rfl ⟨bm_tk_word, trivial⟩
theorem bm_tk_fails {m : Nat} : gfb m (.inl (fn_tk_fails m)) := gF_b8 (E := e_tk_fails m) rfl rfl trivial
theorem bm_tk_string {m : Nat} : gfb m (.inl (fn_tk_string m)) := gF_b8 (E := e_tk_string m) rfl rfl ⟨bm_tk_byteAt, bm_tk_fails, trivial⟩
theorem bm_tk_signs {m : Nat} : gfb m (.inl (fn_tk_signs m)) := gF_b8 (E := e_tk_signs m) rfl rfl ⟨bm_tk_byteAt, bm_tk_fails, (gfb_of0 fm_st_indexOf_2), trivial⟩
theorem bm_tk_read {m : Nat} : gfb m (.inl (fn_tk_read m)) := gF_b8 (E := e_tk_read m) rfl rfl ⟨bm_tk_skip, bm_tk_byteAt, bm_tk_isLetter, bm_tk_isDigit, bm_tk_isWord, bm_tk_fails, bm_tk_string, bm_tk_signs, trivial⟩
theorem bm_tk_begin {m : Nat} : gfb m (.inl (fn_tk_begin m)) := gF_b8 (E := e_tk_begin m) rfl rfl ⟨bm_tk_read, trivial⟩
theorem bm_tk_isWord_2 {m : Nat} : gfb m (.inl (fn_tk_isWord_2 m)) := gF_b8 (E := e_tk_isWord_2 m) rfl rfl ⟨bm_tk_word, (gfb_of0 fm_st_indexOf_3), trivial⟩
theorem bm_tk_is {m : Nat} : gfb m (.inl (fn_tk_is m)) := gF_b8 (E := e_tk_is m) rfl rfl trivial
theorem bm_ps_good {m : Nat} : gfb m (.inl (fn_ps_good m)) := gF_b8 (E := e_ps_good m) rfl rfl trivial
theorem bm_ps_isSame {m : Nat} : gfb m (.inl (fn_ps_isSame m)) := gF_b8 (E := e_ps_isSame m) rfl rfl ⟨bm_tk_byteAt, trivial⟩
theorem bm_ps_open {m : Nat} : gfb m (.inl (fn_ps_open m)) := gF_b8 (E := e_ps_open m) rfl rfl ⟨bm_ps_good, bm_tk_fails, bm_tk_read, trivial⟩
theorem bm_ps_opens {m : Nat} : gfb m (.inl (fn_ps_opens m)) := gF_b8 (E := e_ps_opens m) rfl rfl ⟨bm_ps_good, bm_tk_is, bm_tk_fails, bm_ps_open, trivial⟩
theorem bm_ps_local {m : Nat} : gfb m (.inl (fn_ps_local m)) := gF_b8 (E := e_ps_local m) rfl rfl ⟨bm_ps_isSame, trivial⟩
theorem bm_ps_blank {m : Nat} : gfb m (.inl (fn_ps_blank m)) := gF_b8 (E := e_ps_blank m) rfl rfl trivial
theorem bm_ps_node {m : Nat} : gfb m (.inl (fn_ps_node m)) := gF_b8 (E := e_ps_node m) rfl rfl ⟨bm_tk_fails, bm_ps_blank, trivial⟩
theorem bm_ps_adds {m : Nat} : gfb m (.inl (fn_ps_adds m)) := gF_b8 (E := e_ps_adds m) rfl rfl trivial
theorem bm_ps_param {m : Nat} : gfb m (.inl (fn_ps_param m)) := gF_b8 (E := e_ps_param m) rfl rfl ⟨bm_ps_good, bm_tk_fails, bm_ps_local, bm_ps_node, bm_ps_adds, bm_tk_read, trivial⟩
theorem bm_ps_takes {m : Nat} : gfb m (.inl (fn_ps_takes m)) := gF_b8 (E := e_ps_takes m) rfl rfl ⟨bm_tk_is, bm_tk_read, trivial⟩
theorem bm_ps_must {m : Nat} : gfb m (.inl (fn_ps_must m)) := gF_b8 (E := e_ps_must m) rfl rfl ⟨bm_ps_good, bm_ps_takes, bm_tk_fails, trivial⟩
theorem bm_ps_closes {m : Nat} : gfb m (.inl (fn_ps_closes m)) := gF_b8 (E := e_ps_closes m) rfl rfl ⟨bm_ps_must, trivial⟩
theorem bm_ps_begins {m : Nat} : gfb m (.inl (fn_ps_begins m)) := gF_b8 (E := e_ps_begins m) rfl rfl ⟨bm_tk_is, bm_tk_isWord_2, trivial⟩
theorem bm_ps_two {m : Nat} : gfb m (.inl (fn_ps_two m)) := gF_b8 (E := e_ps_two m) rfl rfl ⟨bm_ps_node, bm_ps_good, bm_tk_read, trivial⟩
theorem bm_ps_sets {m : Nat} : gfb m (.inl (fn_ps_sets m)) := gF_b8 (E := e_ps_sets m) rfl rfl ⟨bm_ps_local, bm_tk_fails, bm_ps_adds, trivial⟩
theorem bm_rec_ps_and {m : Nat} : ∀ (d k : Nat), gfb m (.inl (rec_ps_and m d k))
  | 0, _ => gfb_none
  | d + 1, k => by
    have h := bm_rec_ps_and (m := m) d
    match k with
    | 0 => exact gF_b8 (E := e_ps_and m (rec_ps_and m d)) rfl rfl ⟨(h 5), bm_ps_good, bm_tk_is, bm_ps_two, trivial⟩
    | 1 => exact gF_b8 (E := e_ps_atom m (rec_ps_and m d)) rfl rfl ⟨bm_ps_good, bm_ps_blank, bm_ps_node, bm_tk_isWord_2, bm_ps_opens, (h 4), bm_ps_closes, bm_tk_read, trivial⟩
    | 2 => exact gF_b8 (E := e_ps_behind m (rec_ps_and m d)) rfl rfl ⟨bm_tk_is, (h 3), bm_tk_fails, bm_ps_node, bm_ps_good, bm_tk_read, bm_ps_open, (h 4), bm_ps_closes, trivial⟩
    | 3 => exact gF_b8 (E := e_ps_call m (rec_ps_and m d)) rfl rfl ⟨bm_tk_fails, bm_ps_node, bm_ps_open, bm_ps_good, bm_tk_is, bm_ps_begins, (h 4), bm_tk_read, bm_ps_closes, trivial⟩
    | 4 => exact gF_b8 (E := e_ps_e m (rec_ps_and m d)) rfl rfl ⟨(h 7), bm_ps_good, bm_tk_is, bm_tk_fails, bm_ps_sets, bm_ps_open, (h 4), trivial⟩
    | 5 => exact gF_b8 (E := e_ps_equal m (rec_ps_and m d)) rfl rfl ⟨(h 6), bm_tk_is, bm_ps_good, bm_ps_two, trivial⟩
    | 6 => exact gF_b8 (E := e_ps_less m (rec_ps_and m d)) rfl rfl ⟨(h 9), bm_ps_good, bm_tk_is, bm_ps_two, trivial⟩
    | 7 => exact gF_b8 (E := e_ps_or m (rec_ps_and m d)) rfl rfl ⟨(h 0), bm_ps_good, bm_tk_is, bm_ps_two, trivial⟩
    | 8 => exact gF_b8 (E := e_ps_product m (rec_ps_and m d)) rfl rfl ⟨(h 10), bm_ps_good, bm_tk_is, bm_ps_two, trivial⟩
    | 9 => exact gF_b8 (E := e_ps_sum m (rec_ps_and m d)) rfl rfl ⟨(h 8), bm_ps_good, bm_tk_is, bm_ps_two, trivial⟩
    | _ + 10 => exact gF_b8 (E := e_ps_unary m (rec_ps_and m d)) rfl rfl ⟨bm_tk_is, bm_tk_fails, bm_ps_node, bm_ps_open, (h 10), (h 1), bm_ps_good, (h 2), trivial⟩
theorem bm_ps_condition {m : Nat} : gfb m (.inl (fn_ps_condition m)) := gF_b8 (E := e_ps_condition m) rfl rfl ⟨bm_ps_good, bm_tk_read, bm_ps_opens, (bm_rec_ps_and 300 4), bm_ps_closes, trivial⟩
theorem bm_rec_ps_block {m : Nat} : ∀ (d k : Nat), gfb m (.inl (rec_ps_block m d k))
  | 0, _ => gfb_none
  | d + 1, k => by
    have h := bm_rec_ps_block (m := m) d
    match k with
    | 0 => exact gF_b8 (E := e_ps_block m (rec_ps_block m d)) rfl rfl ⟨bm_ps_opens, bm_ps_good, bm_tk_is, (h 1), bm_ps_closes, trivial⟩
    | _ + 1 => exact gF_b8 (E := e_ps_statement m (rec_ps_block m d)) rfl rfl ⟨bm_tk_isWord_2, bm_ps_node, bm_ps_condition, (h 0), bm_ps_good, bm_tk_read, bm_tk_is, (bm_rec_ps_and 300 4), bm_ps_must, bm_tk_fails, bm_ps_blank, trivial⟩
theorem bm_ps_resolve {m : Nat} : gfb m (.inl (fn_ps_resolve m)) := gF_b8 (E := e_ps_resolve m) rfl rfl ⟨bm_ps_local, trivial⟩
theorem bm_ps_function {m : Nat} : gfb m (.inl (fn_ps_function m)) := gF_b8 (E := e_ps_function m) rfl rfl ⟨bm_tk_isWord_2, bm_tk_fails, bm_ps_good, bm_tk_read, bm_ps_isSame, bm_ps_opens, bm_tk_is, bm_ps_param, bm_ps_closes, (bm_rec_ps_block 60 0), bm_ps_resolve, trivial⟩
theorem bm_ps_read {m : Nat} : gfb m (.inl (fn_ps_read m)) := gF_b8 (E := e_ps_read m) rfl rfl ⟨bm_tk_begin, bm_ps_good, bm_ps_function, trivial⟩
theorem bm_fr_spell {m : Nat} : gfb m (.inl (fn_fr_spell m)) := gF_b8 (E := e_fr_spell m) rfl rfl ⟨(gfb_of0 fm_st_length), (gfb_of0 fm_st_charAt), trivial⟩
theorem bm_fr_function {m : Nat} : gfb m (.inl (fn_fr_function m)) := gF_b8 (E := e_fr_function m) rfl rfl ⟨bm_hp_string, trivial⟩
theorem bm_fr_rootOf {m : Nat} : gfb m (.inl (fn_fr_rootOf m)) := gF_b8 (E := e_fr_rootOf m) rfl rfl trivial
theorem bm_fr_plant {m : Nat} : gfb m (.inl (fn_fr_plant m)) := gF_b8 (E := e_fr_plant m) rfl rfl ⟨bm_fr_spell, bm_fr_function, bm_fr_rootOf, trivial⟩
theorem bm_fr_text {m : Nat} : gfb m (.inl (fn_fr_text m)) := gF_b8 (E := e_fr_text m) rfl rfl ⟨bm_fr_spell, bm_hp_string, trivial⟩
theorem bm_fr_clear {m : Nat} : gfb m (.inl (fn_fr_clear m)) := gF_b8 (E := e_fr_clear m) rfl rfl ⟨bm_hp_clear, bm_fr_plant, bm_fr_text, trivial⟩
theorem bm_fr_node {m : Nat} : gfb m (.inl (fn_fr_node m)) := gF_b8 (E := e_fr_node m) rfl rfl trivial
theorem bm_fr_put {m : Nat} : gfb m (.inl (fn_fr_put m)) := gF_b8 (E := e_fr_put m) rfl rfl trivial
theorem bm_fr_constant {m : Nat} : gfb m (.inl (fn_fr_constant m)) := gF_b8 (E := e_fr_constant m) rfl rfl ⟨bm_fr_put, trivial⟩
theorem bm_fr_number {m : Nat} : gfb m (.inl (fn_fr_number m)) := gF_b8 (E := e_fr_number m) rfl rfl ⟨bm_wl_of, bm_wl_more, bm_wl_isLong, bm_fr_constant, bm_hp_whole, trivial⟩
theorem bm_rec_fr_property {m : Nat} : ∀ (d k : Nat), gfb m (.inl (rec_fr_property m d k))
  | 0, _ => gfb_none
  | d + 1, k => by
    have h := bm_rec_fr_property (m := m) d
    match k with
    | 0 => exact gF_b8 (E := e_fr_property m (rec_fr_property m d)) rfl rfl ⟨(h 1), bm_hp_string, bm_fr_put, trivial⟩
    | 1 => exact gF_b8 (E := e_fr_work m (rec_fr_property m d)) rfl rfl ⟨bm_fr_node, (h 2), trivial⟩
    | _ + 2 => exact gF_b8 (E := e_fr_work_2 m (rec_fr_property m d)) rfl rfl ⟨bm_fr_number, bm_hp_string, bm_fr_constant, bm_fr_function, bm_fr_put, (h 1), (h 0), trivial⟩
theorem bm_fr_land {m : Nat} : gfb m (.inl (fn_fr_land m)) := gF_b8 (E := e_fr_land m) rfl rfl trivial
theorem bm_rec_fr_loop {m : Nat} : ∀ (d k : Nat), gfb m (.inl (rec_fr_loop m d k))
  | 0, _ => gfb_none
  | d + 1, k => by
    have h := bm_rec_fr_loop (m := m) d
    match k with
    | 0 => exact gF_b8 (E := e_fr_loop m (rec_fr_loop m d)) rfl rfl ⟨(bm_rec_fr_property 1000 1), bm_fr_put, (h 2), bm_fr_land, trivial⟩
    | 1 => exact gF_b8 (E := e_fr_statement m (rec_fr_loop m d)) rfl rfl ⟨bm_fr_put, bm_fr_node, (bm_rec_fr_property 1000 1), (h 2), (h 0), trivial⟩
    | _ + 2 => exact gF_b8 (E := e_fr_statements m (rec_fr_loop m d)) rfl rfl ⟨(h 1), trivial⟩
theorem bm_fr_plant_2 {m : Nat} : gfb m (.inl (fn_fr_plant_2 m)) := gF_b8 (E := e_fr_plant_2 m) rfl rfl ⟨bm_fr_function, bm_fr_rootOf, bm_fr_node, (bm_rec_fr_loop 120 2), bm_fr_put, trivial⟩
theorem bm_fr_named {m : Nat} : gfb m (.inl (fn_fr_named m)) := gF_b8 (E := e_fr_named m) rfl rfl ⟨(gfb_of0 fm_st_length), (gfb_of0 fm_st_charAt), trivial⟩
theorem bm_fr_isNewest {m : Nat} : gfb m (.inl (fn_fr_isNewest m)) := gF_b8 (E := e_fr_isNewest m) rfl rfl trivial
theorem bm_fr_sort {m : Nat} : gfb m (.inl (fn_fr_sort m)) := gF_b8 (E := e_fr_sort m) rfl rfl trivial
theorem bm_sp_clear {m : Nat} : gfb m (.inl (fn_sp_clear m)) := gF_b8 (E := e_sp_clear m) rfl rfl trivial
theorem bm_sp_nameOf {m : Nat} : gfb m (.inl (fn_sp_nameOf m)) := gF_b8 (E := e_sp_nameOf m) rfl rfl ⟨bm_hp_is, trivial⟩
theorem bm_sp_place {m : Nat} : gfb m (.inl (fn_sp_place m)) := gF_b8 (E := e_sp_place m) rfl rfl trivial
theorem bm_sp_last {m : Nat} : gfb m (.inl (fn_sp_last m)) := gF_b8 (E := e_sp_last m) rfl rfl trivial
theorem bm_sp_sortAt {m : Nat} : gfb m (.inl (fn_sp_sortAt m)) := gF_b8 (E := e_sp_sortAt m) rfl rfl trivial
theorem bm_sp_child {m : Nat} : gfb m (.inl (fn_sp_child m)) := gF_b8 (E := e_sp_child m) rfl rfl trivial
theorem bm_sp_newName {m : Nat} : gfb m (.inl (fn_sp_newName m)) := gF_b8 (E := e_sp_newName m) rfl rfl ⟨gfb_copy, trivial⟩
theorem bm_sp_add {m : Nat} : gfb m (.inl (fn_sp_add m)) := gF_b8 (E := e_sp_add m) rfl rfl trivial
theorem bm_sp_childFor {m : Nat} : gfb m (.inl (fn_sp_childFor m)) := gF_b8 (E := e_sp_childFor m) rfl rfl ⟨bm_sp_nameOf, bm_sp_child, bm_sp_newName, bm_sp_add, trivial⟩
theorem bm_sp_wider {m : Nat} : gfb m (.inl (fn_sp_wider m)) := gF_b8 (E := e_sp_wider m) rfl rfl ⟨bm_sp_child, bm_sp_add, trivial⟩
theorem bm_cd_clear {m : Nat} : gfb m (.inl (fn_cd_clear m)) := gF_b8 (E := e_cd_clear m) rfl rfl trivial
theorem bm_cd_more {m : Nat} : gfb m (.inl (fn_cd_more m)) := gF_b8 (E := e_cd_more m) rfl rfl ⟨(gfb_of0 fm_jm_min), trivial⟩
theorem bm_cd_start {m : Nat} : gfb m (.inl (fn_cd_start m)) := gF_b8 (E := e_cd_start m) rfl rfl trivial
theorem bm_cd_place {m : Nat} : gfb m (.inl (fn_cd_place m)) := gF_b8 (E := e_cd_place m) rfl rfl trivial
theorem bm_cd_heats {m : Nat} : gfb m (.inl (fn_cd_heats m)) := gF_b8 (E := e_cd_heats m) rfl rfl ⟨bm_cd_more, bm_cd_place, bm_fr_isNewest, trivial⟩
theorem bm_cd_ends {m : Nat} : gfb m (.inl (fn_cd_ends m)) := gF_b8 (E := e_cd_ends m) rfl rfl trivial
theorem bm_cd_changed {m : Nat} : gfb m (.inl (fn_cd_changed m)) := gF_b8 (E := e_cd_changed m) rfl rfl ⟨bm_cd_ends, trivial⟩
theorem bm_cd_has {m : Nat} : gfb m (.inl (fn_cd_has m)) := gF_b8 (E := e_cd_has m) rfl rfl trivial
theorem bm_cd_obsolete {m : Nat} : gfb m (.inl (fn_cd_obsolete m)) := gF_b8 (E := e_cd_obsolete m) rfl rfl ⟨bm_cd_has, bm_cd_ends, trivial⟩
theorem bm_cd_calls {m : Nat} : gfb m (.inl (fn_cd_calls m)) := gF_b8 (E := e_cd_calls m) rfl rfl trivial
theorem bm_cd_defined {m : Nat} : gfb m (.inl (fn_cd_defined m)) := gF_b8 (E := e_cd_defined m) rfl rfl ⟨bm_cd_calls, bm_cd_ends, trivial⟩
theorem bm_cd_unit {m : Nat} : gfb m (.inl (fn_cd_unit m)) := gF_b8 (E := e_cd_unit m) rfl rfl trivial
theorem bm_cd_adds {m : Nat} : gfb m (.inl (fn_cd_adds m)) := gF_b8 (E := e_cd_adds m) rfl rfl trivial
theorem bm_cd_inlines {m : Nat} : gfb m (.inl (fn_cd_inlines m)) := gF_b8 (E := e_cd_inlines m) rfl rfl ⟨bm_fr_isNewest, bm_cd_adds, trivial⟩
theorem bm_cd_lays {m : Nat} : gfb m (.inl (fn_cd_lays m)) := gF_b8 (E := e_cd_lays m) rfl rfl trivial
theorem bm_cd_isSure {m : Nat} : gfb m (.inl (fn_cd_isSure m)) := gF_b8 (E := e_cd_isSure m) rfl rfl trivial
theorem bm_cd_guardsOf {m : Nat} : gfb m (.inl (fn_cd_guardsOf m)) := gF_b8 (E := e_cd_guardsOf m) rfl rfl ⟨bm_cd_isSure, (gfb_of0 fm_jm_max), trivial⟩
theorem bm_cd_make {m : Nat} : gfb m (.inl (fn_cd_make m)) := gF_b8 (E := e_cd_make m) rfl rfl ⟨bm_cd_adds, bm_cd_inlines, bm_cd_lays, bm_cd_guardsOf, trivial⟩
theorem bm_cd_compile {m : Nat} : gfb m (.inl (fn_cd_compile m)) := gF_b8 (E := e_cd_compile m) rfl rfl ⟨bm_fr_isNewest, bm_cd_make, trivial⟩
theorem bm_mc_none {m : Nat} : gfb m (.inl (fn_mc_none m)) := gF_b8 (E := e_mc_none m) rfl rfl ⟨bm_hp_begin, trivial⟩
theorem bm_mc_clear {m : Nat} : gfb m (.inl (fn_mc_clear m)) := gF_b8 (E := e_mc_clear m) rfl rfl ⟨bm_mc_none, trivial⟩
theorem bm_mc_push {m : Nat} : gfb m (.inl (fn_mc_push m)) := gF_b8 (E := e_mc_push m) rfl rfl trivial
theorem bm_mc_enters {m : Nat} : gfb m (.inl (fn_mc_enters m)) := gF_b8 (E := e_mc_enters m) rfl rfl ⟨bm_cd_more, trivial⟩
theorem bm_mc_leaves {m : Nat} : gfb m (.inl (fn_mc_leaves m)) := gF_b8 (E := e_mc_leaves m) rfl rfl trivial
theorem bm_mc_changed {m : Nat} : gfb m (.inl (fn_mc_changed m)) := gF_b8 (E := e_mc_changed m) rfl rfl ⟨bm_mc_leaves, bm_cd_changed, trivial⟩
theorem bm_mc_changes {m : Nat} : gfb m (.inl (fn_mc_changes m)) := gF_b8 (E := e_mc_changes m) rfl rfl ⟨bm_mc_changed, trivial⟩
theorem bm_mc_write {m : Nat} : gfb m (.inl (fn_mc_write m)) := gF_b8 (E := e_mc_write m) rfl rfl ⟨bm_mc_changes, trivial⟩
theorem bm_mc_activate {m : Nat} : gfb m (.inl (fn_mc_activate m)) := gF_b8 (E := e_mc_activate m) rfl rfl ⟨(gfb_of0 fm_jm_max), bm_cd_more, bm_cd_start, bm_cd_heats, bm_mc_enters, bm_mc_write, trivial⟩
theorem bm_mc_fails {m : Nat} : gfb m (.inl (fn_mc_fails m)) := gF_b8 (E := e_mc_fails m) rfl rfl trivial
theorem bm_mc_falls {m : Nat} : gfb m (.inl (fn_mc_falls m)) := gF_b8 (E := e_mc_falls m) rfl rfl ⟨bm_mc_leaves, trivial⟩
theorem bm_mc_again {m : Nat} : gfb m (.inl (fn_mc_again m)) := gF_b8 (E := e_mc_again m) rfl rfl ⟨bm_cd_heats, bm_mc_enters, bm_cd_start, trivial⟩
theorem bm_mc_read {m : Nat} : gfb m (.inl (fn_mc_read m)) := gF_b8 (E := e_mc_read m) rfl rfl ⟨bm_mc_changes, bm_mc_push, trivial⟩
theorem bm_mc_areLongs {m : Nat} : gfb m (.inl (fn_mc_areLongs m)) := gF_b8 (E := e_mc_areLongs m) rfl rfl trivial
theorem bm_mc_holds {m : Nat} : gfb m (.inl (fn_mc_holds m)) := gF_b8 (E := e_mc_holds m) rfl rfl trivial
theorem bm_mc_settle {m : Nat} : gfb m (.inl (fn_mc_settle m)) := gF_b8 (E := e_mc_settle m) rfl rfl ⟨bm_mc_push, trivial⟩
theorem bm_mc_fits {m : Nat} : gfb m (.inl (fn_mc_fits m)) := gF_b8 (E := e_mc_fits m) rfl rfl ⟨(gfb_of0 fm_jm_multiplyHigh), trivial⟩
theorem bm_mc_longs {m : Nat} : gfb m (.inl (fn_mc_longs m)) := gF_b8 (E := e_mc_longs m) rfl rfl ⟨bm_mc_areLongs, (gfb_of0 fm_jl_compare), bm_mc_holds, bm_mc_settle, bm_mc_fits, trivial⟩
theorem bm_mc_isNumber {m : Nat} : gfb m (.inl (fn_mc_isNumber m)) := gF_b8 (E := e_mc_isNumber m) rfl rfl trivial
theorem bm_mc_whole {m : Nat} : gfb m (.inl (fn_mc_whole m)) := gF_b8 (E := e_mc_whole m) rfl rfl ⟨bm_wl_of, bm_hp_get, trivial⟩
theorem bm_mc_order {m : Nat} : gfb m (.inl (fn_mc_order m)) := gF_b8 (E := e_mc_order m) rfl rfl ⟨bm_mc_areLongs, (gfb_of0 fm_jl_compare), bm_mc_whole, bm_wl_compare, trivial⟩
theorem bm_mc_needs {m : Nat} : gfb m (.inl (fn_mc_needs m)) := gF_b8 (E := e_mc_needs m) rfl rfl ⟨bm_mc_changes, trivial⟩
theorem bm_mc_alike {m : Nat} : gfb m (.inl (fn_mc_alike m)) := gF_b8 (E := e_mc_alike m) rfl rfl ⟨bm_mc_isNumber, bm_mc_order, bm_hp_isSame, bm_mc_needs, bm_mc_settle, trivial⟩
theorem bm_mc_digits {m : Nat} : gfb m (.inl (fn_mc_digits m)) := gF_b8 (E := e_mc_digits m) rfl rfl ⟨bm_hp_put, bm_wl_digits, bm_wl_digit, trivial⟩
theorem bm_mc_letters {m : Nat} : gfb m (.inl (fn_mc_letters m)) := gF_b8 (E := e_mc_letters m) rfl rfl ⟨bm_hp_put, trivial⟩
theorem bm_mc_says {m : Nat} : gfb m (.inl (fn_mc_says m)) := gF_b8 (E := e_mc_says m) rfl rfl ⟨(gfb_of0 fm_st_length), (gfb_of0 fm_st_charAt), bm_hp_put, trivial⟩
theorem bm_mc_shows {m : Nat} : gfb m (.inl (fn_mc_shows m)) := gF_b8 (E := e_mc_shows m) rfl rfl ⟨bm_wl_of, bm_mc_digits, bm_hp_get, bm_mc_letters, bm_mc_says, trivial⟩
theorem bm_mc_joins {m : Nat} : gfb m (.inl (fn_mc_joins m)) := gF_b8 (E := e_mc_joins m) rfl rfl ⟨bm_mc_fails, bm_hp_lay, bm_mc_shows, bm_hp_laidLetters, bm_hp_makes, bm_mc_needs, bm_hp_laidString, bm_mc_settle, trivial⟩
theorem bm_mc_compares {m : Nat} : gfb m (.inl (fn_mc_compares m)) := gF_b8 (E := e_mc_compares m) rfl rfl ⟨bm_mc_needs, bm_mc_order, bm_mc_holds, bm_mc_settle, trivial⟩
theorem bm_mc_two {m : Nat} : gfb m (.inl (fn_mc_two m)) := gF_b8 (E := e_mc_two m) rfl rfl ⟨bm_mc_alike, bm_mc_isNumber, bm_mc_joins, bm_mc_fails, bm_mc_areLongs, bm_mc_compares, bm_mc_fits, bm_mc_needs, bm_mc_settle, bm_mc_whole, bm_wl_sum, bm_wl_product, bm_wl_quotient, bm_hp_makes, bm_hp_whole, trivial⟩
theorem bm_mc_isTruth {m : Nat} : gfb m (.inl (fn_mc_isTruth m)) := gF_b8 (E := e_mc_isTruth m) rfl rfl ⟨bm_mc_fails, trivial⟩
theorem bm_mc_took {m : Nat} : gfb m (.inl (fn_mc_took m)) := gF_b8 (E := e_mc_took m) rfl rfl ⟨bm_mc_changes, trivial⟩
theorem bm_mc_left {m : Nat} : gfb m (.inl (fn_mc_left m)) := gF_b8 (E := e_mc_left m) rfl rfl ⟨bm_mc_isTruth, bm_mc_took, trivial⟩
theorem bm_mc_nameAt {m : Nat} : gfb m (.inl (fn_mc_nameAt m)) := gF_b8 (E := e_mc_nameAt m) rfl rfl trivial
theorem bm_mc_moves {m : Nat} : gfb m (.inl (fn_mc_moves m)) := gF_b8 (E := e_mc_moves m) rfl rfl trivial
theorem bm_mc_isStale {m : Nat} : gfb m (.inl (fn_mc_isStale m)) := gF_b8 (E := e_mc_isStale m) rfl rfl ⟨bm_fr_isNewest, trivial⟩
theorem bm_mc_settles {m : Nat} : gfb m (.inl (fn_mc_settles m)) := gF_b8 (E := e_mc_settles m) rfl rfl ⟨bm_mc_isStale, bm_mc_changed, trivial⟩
theorem bm_mc_get {m : Nat} : gfb m (.inl (fn_mc_get m)) := gF_b8 (E := e_mc_get m) rfl rfl ⟨bm_mc_fails, bm_mc_nameAt, bm_sp_nameOf, bm_sp_place, bm_mc_moves, bm_mc_settles, bm_mc_push, trivial⟩
theorem bm_mc_put {m : Nat} : gfb m (.inl (fn_mc_put m)) := gF_b8 (E := e_mc_put m) rfl rfl ⟨bm_mc_fails, bm_mc_nameAt, bm_sp_nameOf, bm_sp_last, bm_sp_place, bm_sp_sortAt, bm_sp_childFor, bm_sp_wider, bm_mc_moves, bm_cd_obsolete, bm_mc_settles, bm_mc_push, trivial⟩
theorem bm_mc_print {m : Nat} : gfb m (.inl (fn_mc_print m)) := gF_b8 (E := e_mc_print m) rfl rfl ⟨bm_hp_lay, bm_mc_shows, bm_hp_put, bm_hp_laidLetters, trivial⟩
theorem bm_mc_define {m : Nat} : gfb m (.inl (fn_mc_define m)) := gF_b8 (E := e_mc_define m) rfl rfl ⟨bm_mc_fails, bm_ps_read, bm_fr_plant_2, bm_cd_defined, trivial⟩
theorem bm_mc_there {m : Nat} : gfb m (.inl (fn_mc_there m)) := gF_b8 (E := e_mc_there m) rfl rfl ⟨bm_mc_print, bm_mc_fails, bm_mc_define, bm_mc_push, bm_mc_falls, trivial⟩
theorem bm_mc_call {m : Nat} : gfb m (.inl (fn_mc_call m)) := gF_b8 (E := e_mc_call m) rfl rfl ⟨bm_mc_fails, bm_mc_settles, bm_cd_more, bm_mc_there, bm_cd_unit, bm_mc_activate, trivial⟩
theorem bm_mc_test {m : Nat} : gfb m (.inl (fn_mc_test m)) := gF_b8 (E := e_mc_test m) rfl rfl ⟨bm_mc_isTruth, bm_mc_took, trivial⟩
theorem bm_mc_comesBack {m : Nat} : gfb m (.inl (fn_mc_comesBack m)) := gF_b8 (E := e_mc_comesBack m) rfl rfl ⟨bm_mc_push, bm_hp_lay, bm_mc_shows, bm_hp_laidLetters, bm_mc_falls, trivial⟩
theorem bm_mc_work {m : Nat} : gfb m (.inl (fn_mc_work m)) := gF_b8 (E := e_mc_work m) rfl rfl ⟨bm_mc_push, bm_mc_read, bm_mc_write, bm_mc_longs, bm_mc_two, bm_mc_left, bm_mc_isTruth, bm_mc_get, bm_mc_put, bm_mc_call, bm_mc_test, bm_mc_comesBack, trivial⟩
theorem bm_mc_go {m : Nat} : gfb m (.inl (fn_mc_go m)) := gF_b8 (E := e_mc_go m) rfl rfl ⟨bm_mc_fails, bm_mc_falls, bm_mc_again, bm_mc_work, trivial⟩
theorem bm_mc_start {m : Nat} : gfb m (.inl (fn_mc_start m)) := gF_b8 (E := e_mc_start m) rfl rfl ⟨bm_mc_none, bm_mc_push, bm_cd_more, bm_mc_activate, bm_mc_go, trivial⟩
theorem bm_gt_four {m : Nat} : gfb m (.inl (fn_gt_four m)) := gF_b8 (E := e_gt_four m) rfl rfl trivial
theorem bm_gt_feed {m : Nat} : gfb m (.inl (fn_gt_feed m)) := gF_b8 (E := e_gt_feed m) rfl rfl ⟨bm_gt_four, trivial⟩
theorem bm_gt_load {m : Nat} : gfb m (.inl (fn_gt_load m)) := gF_b8 (E := e_gt_load m) rfl rfl ⟨bm_ps_read, bm_mc_none, bm_fr_clear, bm_sp_clear, bm_cd_clear, bm_mc_clear, bm_fr_plant_2, trivial⟩
theorem bm_gt_fault {m : Nat} : gfb m (.inl (fn_gt_fault m)) := gF_b8 (E := e_gt_fault m) rfl rfl trivial
theorem bm_gt_start {m : Nat} : gfb m (.inl (fn_gt_start m)) := gF_b8 (E := e_gt_start m) rfl rfl ⟨bm_fr_named, bm_mc_start, trivial⟩
theorem bm_gt_run {m : Nat} : gfb m (.inl (fn_gt_run m)) := gF_b8 (E := e_gt_run m) rfl rfl ⟨bm_mc_go, trivial⟩
theorem bm_gt_state {m : Nat} : gfb m (.inl (fn_gt_state m)) := gF_b8 (E := e_gt_state m) rfl rfl trivial
theorem bm_gt_error {m : Nat} : gfb m (.inl (fn_gt_error m)) := gF_b8 (E := e_gt_error m) rfl rfl trivial
theorem bm_gt_result {m : Nat} : gfb m (.inl (fn_gt_result m)) := gF_b8 (E := e_gt_result m) rfl rfl trivial
theorem bm_gt_out {m : Nat} : gfb m (.inl (fn_gt_out m)) := gF_b8 (E := e_gt_out m) rfl rfl ⟨(gfb_of0 fm_jm_min), trivial⟩
theorem bm_gt_compile {m : Nat} : gfb m (.inl (fn_gt_compile m)) := gF_b8 (E := e_gt_compile m) rfl rfl ⟨bm_cd_compile, trivial⟩
theorem bm_gt_root {m : Nat} : gfb m (.inl (fn_gt_root m)) := gF_b8 (E := e_gt_root m) rfl rfl ⟨bm_fr_sort, bm_cd_place, bm_fr_isNewest, trivial⟩
theorem bm_gt_node {m : Nat} : gfb m (.inl (fn_gt_node m)) := gF_b8 (E := e_gt_node m) rfl rfl trivial
theorem bm_gt_shape {m : Nat} : gfb m (.inl (fn_gt_shape m)) := gF_b8 (E := e_gt_shape m) rfl rfl trivial
theorem bm_gt_code {m : Nat} : gfb m (.inl (fn_gt_code m)) := gF_b8 (E := e_gt_code m) rfl rfl trivial
theorem bm_gt_frame {m : Nat} : gfb m (.inl (fn_gt_frame m)) := gF_b8 (E := e_gt_frame m) rfl rfl trivial
theorem bm_gt_total {m : Nat} : gfb m (.inl (fn_gt_total m)) := gF_b8 (E := e_gt_total m) rfl rfl trivial
theorem bm_md_hash {m : Nat} : gfb m (.inl (fn_md_hash m)) := gF_b8 (E := e_md_hash m) rfl rfl trivial
theorem bm_md_find {m : Nat} : gfb m (.inl (fn_md_find m)) := gF_b8 (E := e_md_find m) rfl rfl trivial
theorem bm_md_keep_2 {m : Nat} : gfb m (.inl (fn_md_keep_2 m)) := gF_b8 (E := e_md_keep_2 m) rfl rfl ⟨bm_md_hash, bm_md_find, trivial⟩
theorem bm_md_keep {m : Nat} : gfb m (.inl (fn_md_keep m)) := gF_b8 (E := e_md_keep m) rfl rfl ⟨(gfb_of0 fm_st_length), (gfb_of0 fm_st_charAt), bm_md_keep_2, trivial⟩
theorem bm_md_functionOf {m : Nat} : gfb m (.inl (fn_md_functionOf m)) := gF_b8 (E := e_md_functionOf m) rfl rfl trivial
theorem bm_md_unit {m : Nat} : gfb m (.inl (fn_md_unit m)) := gF_b8 (E := e_md_unit m) rfl rfl trivial
theorem bm_md_endCode {m : Nat} : gfb m (.inl (fn_md_endCode m)) := gF_b8 (E := e_md_endCode m) rfl rfl trivial
theorem bm_md_endCodesOfFunction {m : Nat} : gfb m (.inl (fn_md_endCodesOfFunction m)) := gF_b8 (E := e_md_endCodesOfFunction m) rfl rfl ⟨bm_md_unit, bm_md_endCode, trivial⟩
theorem bm_md_rootComes {m : Nat} : gfb m (.inl (fn_md_rootComes m)) := gF_b8 (E := e_md_rootComes m) rfl rfl ⟨bm_md_endCodesOfFunction, trivial⟩
theorem bm_md_houseBegins {m : Nat} : gfb m (.inl (fn_md_houseBegins m)) := gF_b8 (E := e_md_houseBegins m) rfl rfl ⟨bm_md_keep, bm_md_functionOf, bm_md_rootComes, trivial⟩
theorem bm_md_isNewest {m : Nat} : gfb m (.inl (fn_md_isNewest m)) := gF_b8 (E := e_md_isNewest m) rfl rfl trivial
theorem bm_md_addUnit {m : Nat} : gfb m (.inl (fn_md_addUnit m)) := gF_b8 (E := e_md_addUnit m) rfl rfl ⟨bm_md_unit, trivial⟩
theorem bm_md_isSure {m : Nat} : gfb m (.inl (fn_md_isSure m)) := gF_b8 (E := e_md_isSure m) rfl rfl trivial
theorem bm_md_guards {m : Nat} : gfb m (.inl (fn_md_guards m)) := gF_b8 (E := e_md_guards m) rfl rfl ⟨bm_md_isSure, (gfb_of0 fm_jm_max), trivial⟩
theorem bm_md_mayLie {m : Nat} : gfb m (.inl (fn_md_mayLie m)) := gF_b8 (E := e_md_mayLie m) rfl rfl ⟨bm_md_isNewest, bm_md_unit, trivial⟩
theorem bm_md_makeCode {m : Nat} : gfb m (.inl (fn_md_makeCode m)) := gF_b8 (E := e_md_makeCode m) rfl rfl ⟨bm_md_addUnit, bm_md_unit, bm_md_guards, bm_md_mayLie, trivial⟩
theorem bm_md_compile {m : Nat} : gfb m (.inl (fn_md_compile m)) := gF_b8 (E := e_md_compile m) rfl rfl ⟨bm_md_isNewest, bm_md_makeCode, trivial⟩
theorem bm_md_feed {m : Nat} : gfb m (.inl (fn_md_feed m)) := gF_b8 (E := e_md_feed m) rfl rfl trivial
theorem bm_md_noRun {m : Nat} : gfb m (.inl (fn_md_noRun m)) := gF_b8 (E := e_md_noRun m) rfl rfl trivial
theorem bm_md_sign {m : Nat} : gfb m (.inl (fn_md_sign m)) := gF_b8 (E := e_md_sign m) rfl rfl trivial
theorem bm_md_blanks {m : Nat} : gfb m (.inl (fn_md_blanks m)) := gF_b8 (E := e_md_blanks m) rfl rfl ⟨bm_md_sign, trivial⟩
theorem bm_md_isLetter {m : Nat} : gfb m (.inl (fn_md_isLetter m)) := gF_b8 (E := e_md_isLetter m) rfl rfl trivial
theorem bm_md_isDigit {m : Nat} : gfb m (.inl (fn_md_isDigit m)) := gF_b8 (E := e_md_isDigit m) rfl rfl trivial
theorem bm_md_fails {m : Nat} : gfb m (.inl (fn_md_fails m)) := gF_b8 (E := e_md_fails m) rfl rfl trivial
theorem bm_md_word {m : Nat} : gfb m (.inl (fn_md_word m)) := gF_b8 (E := e_md_word m) rfl rfl ⟨(gfb_of0 fm_st_length), (gfb_of0 fm_st_charAt), bm_md_sign, trivial⟩
theorem bm_md_string {m : Nat} : gfb m (.inr (fn_md_string m)) := gG_b8 (E := e_md_string m) rfl rfl ⟨bm_md_sign, bm_md_fails, trivial⟩
theorem bm_md_signs {m : Nat} : gfb m (.inr (fn_md_signs m)) := gG_b8 (E := e_md_signs m) rfl rfl ⟨(gfb_of0 fm_st_length), (gfb_of0 fm_st_charAt), bm_md_fails, bm_md_sign, trivial⟩
theorem bm_md_take {m : Nat} : gfb m (.inr (fn_md_take m)) := gG_b8 (E := e_md_take m) rfl rfl ⟨bm_md_blanks, bm_md_sign, bm_md_isLetter, bm_md_isDigit, bm_md_fails, bm_md_word, bm_md_string, bm_md_signs, trivial⟩
theorem bm_md_need {m : Nat} : gfb m (.inr (fn_md_need m)) := gG_b8 (E := e_md_need m) rfl rfl ⟨bm_md_fails, trivial⟩
theorem bm_md_opens {m : Nat} : gfb m (.inr (fn_md_opens m)) := gG_b8 (E := e_md_opens m) rfl rfl ⟨bm_md_fails, trivial⟩
theorem bm_md_pass {m : Nat} : gfb m (.inr (fn_md_pass m)) := gG_b8 (E := e_md_pass m) rfl rfl ⟨bm_md_need, bm_md_opens, bm_md_take, trivial⟩
theorem bm_md_isWord {m : Nat} : gfb m (.inl (fn_md_isWord m)) := gF_b8 (E := e_md_isWord m) rfl rfl trivial
theorem bm_md_localOf {m : Nat} : gfb m (.inl (fn_md_localOf m)) := gF_b8 (E := e_md_localOf m) rfl rfl ⟨bm_md_isWord, trivial⟩
theorem bm_md_newNode {m : Nat} : gfb m (.inr (fn_md_newNode m)) := gG_b8 (E := e_md_newNode m) rfl rfl ⟨bm_md_fails, trivial⟩
theorem bm_md_addLocal {m : Nat} : gfb m (.inl (fn_md_addLocal m)) := gF_b8 (E := e_md_addLocal m) rfl rfl trivial
theorem bm_md_canBegin {m : Nat} : gfb m (.inl (fn_md_canBegin m)) := gF_b8 (E := e_md_canBegin m) rfl rfl trivial
theorem bm_md_pair {m : Nat} : gfb m (.inr (fn_md_pair m)) := gG_b8 (E := e_md_pair m) rfl rfl ⟨bm_md_newNode, bm_md_take, trivial⟩
theorem bm_rec_md_added {m : Nat} : ∀ (d k : Nat), gfb m (.inr (rec_md_added m d k))
  | 0, _ => gfb_none2
  | d + 1, k => by
    have h := bm_rec_md_added (m := m) d
    match k with
    | 0 => exact gG_b8 (E := e_md_added m (rec_md_added m d)) rfl rfl ⟨(h 8), bm_md_pair, trivial⟩
    | 1 => exact gG_b8 (E := e_md_atom m (rec_md_added m d)) rfl rfl ⟨bm_md_newNode, bm_md_pass, (h 4), bm_md_fails, bm_md_take, trivial⟩
    | 2 => exact gG_b8 (E := e_md_both m (rec_md_added m d)) rfl rfl ⟨(h 9), bm_md_pair, trivial⟩
    | 3 => exact gG_b8 (E := e_md_call m (rec_md_added m d)) rfl rfl ⟨bm_md_opens, bm_md_newNode, bm_md_take, bm_md_canBegin, bm_md_fails, (h 4), bm_md_pass, trivial⟩
    | 4 => exact gG_b8 (E := e_md_e m (rec_md_added m d)) rfl rfl ⟨(h 5), bm_md_fails, bm_md_opens, bm_md_localOf, bm_md_addLocal, bm_md_take, (h 4), trivial⟩
    | 5 => exact gG_b8 (E := e_md_either m (rec_md_added m d)) rfl rfl ⟨(h 2), bm_md_pair, trivial⟩
    | 6 => exact gG_b8 (E := e_md_get m (rec_md_added m d)) rfl rfl ⟨bm_md_opens, bm_md_newNode, bm_md_take, bm_md_need, (h 4), bm_md_pass, trivial⟩
    | 7 => exact gG_b8 (E := e_md_less m (rec_md_added m d)) rfl rfl ⟨(h 0), bm_md_pair, trivial⟩
    | 8 => exact gG_b8 (E := e_md_product m (rec_md_added m d)) rfl rfl ⟨(h 10), bm_md_pair, trivial⟩
    | 9 => exact gG_b8 (E := e_md_same m (rec_md_added m d)) rfl rfl ⟨(h 7), bm_md_pair, trivial⟩
    | _ + 10 => exact gG_b8 (E := e_md_unary m (rec_md_added m d)) rfl rfl ⟨bm_md_opens, bm_md_newNode, bm_md_take, (h 10), (h 1), (h 3), (h 6), trivial⟩
theorem bm_rec_md_block {m : Nat} : ∀ (d k : Nat), gfb m (.inr (rec_md_block m d k))
  | 0, _ => gfb_none2
  | d + 1, k => by
    have h := bm_rec_md_block (m := m) d
    match k with
    | 0 => exact gG_b8 (E := e_md_block m (rec_md_block m d)) rfl rfl ⟨bm_md_pass, (h 1), trivial⟩
    | _ + 1 => exact gG_b8 (E := e_md_statement m (rec_md_block m d)) rfl rfl ⟨bm_md_newNode, bm_md_take, bm_md_pass, (bm_rec_md_added 300 4), (h 0), bm_md_fails, trivial⟩
theorem bm_md_function {m : Nat} : gfb m (.inr (fn_md_function m)) := gG_b8 (E := e_md_function m) rfl rfl ⟨bm_md_pass, bm_md_need, bm_md_fails, bm_md_isWord, bm_md_take, bm_md_localOf, bm_md_newNode, bm_md_addLocal, (bm_rec_md_block 60 0), trivial⟩
theorem bm_md_readText {m : Nat} : gfb m (.inr (fn_md_readText m)) := gG_b8 (E := e_md_readText m) rfl rfl ⟨bm_md_take, bm_md_function, trivial⟩
theorem bm_rec_md_number {m : Nat} : ∀ (d k : Nat), gfb m (.inl (rec_md_number m d k))
  | 0, _ => gfb_none
  | d + 1, k => by
    have h := bm_rec_md_number (m := m) d
    match k with
    | _ => exact gF_b8 (E := e_md_number m (rec_md_number m d)) rfl rfl ⟨(h 0), trivial⟩
theorem bm_md_numberOf {m : Nat} : gfb m (.inl (fn_md_numberOf m)) := gF_b8 (E := e_md_numberOf m) rfl rfl trivial
theorem bm_md_fitsLong {m : Nat} : gfb m (.inl (fn_md_fitsLong m)) := gF_b8 (E := e_md_fitsLong m) rfl rfl trivial
theorem bm_md_asLong {m : Nat} : gfb m (.inl (fn_md_asLong m)) := gF_b8 (E := e_md_asLong m) rfl rfl trivial
theorem bm_md_number_2 {m : Nat} : gfb m (.inl (fn_md_number_2 m)) := gF_b8 (E := e_md_number_2 m) rfl rfl ⟨bm_md_fitsLong, bm_md_asLong, trivial⟩
theorem bm_md_lay {m : Nat} : gfb m (.inl (fn_md_lay m)) := gF_b8 (E := e_md_lay m) rfl rfl ⟨bm_md_numberOf, bm_md_isWord, bm_md_number_2, bm_md_keep_2, bm_md_functionOf, trivial⟩
theorem bm_md_define {m : Nat} : gfb m (.inl (fn_md_define m)) := gF_b8 (E := e_md_define m) rfl rfl ⟨(bm_rec_md_number 320 0), bm_md_lay, bm_md_numberOf, bm_md_keep_2, bm_md_functionOf, bm_md_rootComes, trivial⟩
theorem bm_md_load {m : Nat} : gfb m (.inl (fn_md_load m)) := gF_b8 (E := e_md_load m) rfl rfl ⟨bm_md_noRun, bm_md_readText, bm_md_houseBegins, bm_md_define, trivial⟩
theorem bm_md_fault {m : Nat} : gfb m (.inl (fn_md_fault m)) := gF_b8 (E := e_md_fault m) rfl rfl trivial
theorem bm_md_push {m : Nat} : gfb m (.inl (fn_md_push m)) := gF_b8 (E := e_md_push m) rfl rfl trivial
theorem bm_md_more {m : Nat} : gfb m (.inl (fn_md_more m)) := gF_b8 (E := e_md_more m) rfl rfl trivial
theorem bm_md_unitAt {m : Nat} : gfb m (.inl (fn_md_unitAt m)) := gF_b8 (E := e_md_unitAt m) rfl rfl ⟨bm_md_unit, trivial⟩
theorem bm_md_heat {m : Nat} : gfb m (.inl (fn_md_heat m)) := gF_b8 (E := e_md_heat m) rfl rfl ⟨bm_md_more, bm_md_isNewest, trivial⟩
theorem bm_md_enterCode {m : Nat} : gfb m (.inl (fn_md_enterCode m)) := gF_b8 (E := e_md_enterCode m) rfl rfl ⟨bm_md_more, trivial⟩
theorem bm_md_has {m : Nat} : gfb m (.inl (fn_md_has m)) := gF_b8 (E := e_md_has m) rfl rfl trivial
theorem bm_md_may {m : Nat} : gfb m (.inl (fn_md_may m)) := gF_b8 (E := e_md_may m) rfl rfl trivial
theorem bm_md_leave {m : Nat} : gfb m (.inl (fn_md_leave m)) := gF_b8 (E := e_md_leave m) rfl rfl trivial
theorem bm_md_endCodesOfRoot {m : Nat} : gfb m (.inl (fn_md_endCodesOfRoot m)) := gF_b8 (E := e_md_endCodesOfRoot m) rfl rfl ⟨bm_md_unit, bm_md_endCode, trivial⟩
theorem bm_md_changing {m : Nat} : gfb m (.inl (fn_md_changing m)) := gF_b8 (E := e_md_changing m) rfl rfl ⟨bm_md_leave, bm_md_endCodesOfRoot, trivial⟩
theorem bm_md_settle {m : Nat} : gfb m (.inl (fn_md_settle m)) := gF_b8 (E := e_md_settle m) rfl rfl ⟨bm_md_changing, trivial⟩
theorem bm_md_setsAnew {m : Nat} : gfb m (.inl (fn_md_setsAnew m)) := gF_b8 (E := e_md_setsAnew m) rfl rfl ⟨bm_md_may, bm_md_settle, trivial⟩
theorem bm_md_sets {m : Nat} : gfb m (.inl (fn_md_sets m)) := gF_b8 (E := e_md_sets m) rfl rfl ⟨bm_md_has, bm_md_setsAnew, trivial⟩
theorem bm_md_task {m : Nat} : gfb m (.inl (fn_md_task m)) := gF_b8 (E := e_md_task m) rfl rfl trivial
theorem bm_md_activate {m : Nat} : gfb m (.inl (fn_md_activate m)) := gF_b8 (E := e_md_activate m) rfl rfl ⟨bm_md_more, (gfb_of0 fm_jm_max), bm_md_unitAt, bm_md_heat, bm_md_enterCode, bm_md_sets, bm_md_task, trivial⟩
theorem bm_md_falls {m : Nat} : gfb m (.inl (fn_md_falls m)) := gF_b8 (E := e_md_falls m) rfl rfl ⟨bm_md_leave, trivial⟩
theorem bm_md_comesBack {m : Nat} : gfb m (.inl (fn_md_comesBack m)) := gF_b8 (E := e_md_comesBack m) rfl rfl ⟨bm_md_push, bm_md_falls, trivial⟩
theorem bm_md_error {m : Nat} : gfb m (.inl (fn_md_error m)) := gF_b8 (E := e_md_error m) rfl rfl trivial
theorem bm_md_step {m : Nat} : gfb m (.inr (fn_md_step m)) := gG_b8 (E := e_md_step m) rfl rfl ⟨bm_md_error, trivial⟩
theorem bm_md_row {m : Nat} : gfb m (.inr (fn_md_row m)) := gG_b8 (E := e_md_row m) rfl rfl ⟨bm_md_comesBack, bm_md_step, bm_md_falls, bm_md_task, trivial⟩
theorem bm_md_sizeOf {m : Nat} : gfb m (.inl (fn_md_sizeOf m)) := gF_b8 (E := e_md_sizeOf m) rfl rfl trivial
theorem bm_md_letter {m : Nat} : gfb m (.inl (fn_md_letter m)) := gF_b8 (E := e_md_letter m) rfl rfl ⟨bm_md_sizeOf, trivial⟩
theorem bm_md_write {m : Nat} : gfb m (.inl (fn_md_write m)) := gF_b8 (E := e_md_write m) rfl rfl ⟨bm_md_sizeOf, bm_md_letter, trivial⟩
theorem bm_md_spread {m : Nat} : gfb m (.inl (fn_md_spread m)) := gF_b8 (E := e_md_spread m) rfl rfl trivial
theorem bm_md_digits {m : Nat} : gfb m (.inl (fn_md_digits m)) := gF_b8 (E := e_md_digits m) rfl rfl ⟨bm_md_spread, trivial⟩
theorem bm_md_show {m : Nat} : gfb m (.inl (fn_md_show m)) := gF_b8 (E := e_md_show m) rfl rfl ⟨bm_md_write, bm_md_digits, trivial⟩
theorem bm_md_rowOfRun {m : Nat} : gfb m (.inl (fn_md_rowOfRun m)) := gF_b8 (E := e_md_rowOfRun m) rfl rfl ⟨bm_md_hash, bm_md_find, trivial⟩
theorem bm_md_pairBecomes {m : Nat} : gfb m (.inl (fn_md_pairBecomes m)) := gF_b8 (E := e_md_pairBecomes m) rfl rfl ⟨bm_md_push, trivial⟩
theorem bm_md_joins {m : Nat} : gfb m (.inr (fn_md_joins m)) := gG_b8 (E := e_md_joins m) rfl rfl ⟨bm_md_error, bm_md_show, bm_md_has, bm_md_settle, bm_md_rowOfRun, bm_md_pairBecomes, trivial⟩
theorem bm_md_isNumber {m : Nat} : gfb m (.inl (fn_md_isNumber m)) := gF_b8 (E := e_md_isNumber m) rfl rfl trivial
theorem bm_md_isZero {m : Nat} : gfb m (.inl (fn_md_isZero m)) := gF_b8 (E := e_md_isZero m) rfl rfl trivial
theorem bm_md_compareSizes {m : Nat} : gfb m (.inl (fn_md_compareSizes m)) := gF_b8 (E := e_md_compareSizes m) rfl rfl trivial
theorem bm_md_divides {m : Nat} : gfb m (.inl (fn_md_divides m)) := gF_b8 (E := e_md_divides m) rfl rfl ⟨bm_md_compareSizes, trivial⟩
theorem bm_md_multiplies {m : Nat} : gfb m (.inl (fn_md_multiplies m)) := gF_b8 (E := e_md_multiplies m) rfl rfl trivial
theorem bm_md_adds {m : Nat} : gfb m (.inl (fn_md_adds m)) := gF_b8 (E := e_md_adds m) rfl rfl ⟨bm_md_compareSizes, trivial⟩
theorem bm_md_reckons {m : Nat} : gfb m (.inr (fn_md_reckons m)) := gG_b8 (E := e_md_reckons m) rfl rfl ⟨bm_md_joins, bm_md_isNumber, bm_md_error, bm_md_spread, bm_md_isZero, bm_md_divides, bm_md_multiplies, bm_md_adds, bm_md_fitsLong, bm_md_has, bm_md_may, bm_md_settle, bm_md_asLong, bm_md_pairBecomes, trivial⟩
theorem bm_md_compare {m : Nat} : gfb m (.inl (fn_md_compare m)) := gF_b8 (E := e_md_compare m) rfl rfl ⟨bm_md_isZero, bm_md_compareSizes, trivial⟩
theorem bm_md_comparePair {m : Nat} : gfb m (.inl (fn_md_comparePair m)) := gF_b8 (E := e_md_comparePair m) rfl rfl ⟨bm_md_spread, bm_md_compare, trivial⟩
theorem bm_md_orders {m : Nat} : gfb m (.inr (fn_md_orders m)) := gG_b8 (E := e_md_orders m) rfl rfl ⟨bm_md_isNumber, bm_md_error, bm_md_has, bm_md_settle, bm_md_comparePair, bm_md_pairBecomes, trivial⟩
theorem bm_md_isSame {m : Nat} : gfb m (.inl (fn_md_isSame m)) := gF_b8 (E := e_md_isSame m) rfl rfl trivial
theorem bm_md_compares {m : Nat} : gfb m (.inl (fn_md_compares m)) := gF_b8 (E := e_md_compares m) rfl rfl ⟨bm_md_has, bm_md_settle, bm_md_isNumber, bm_md_comparePair, bm_md_isSame, bm_md_pairBecomes, trivial⟩
theorem bm_md_reads {m : Nat} : gfb m (.inl (fn_md_reads m)) := gF_b8 (E := e_md_reads m) rfl rfl ⟨bm_md_has, bm_md_settle, bm_md_push, trivial⟩
theorem bm_md_begun {m : Nat} : gfb m (.inl (fn_md_begun m)) := gF_b8 (E := e_md_begun m) rfl rfl ⟨bm_md_task, trivial⟩
theorem bm_md_truth {m : Nat} : gfb m (.inr (fn_md_truth m)) := gG_b8 (E := e_md_truth m) rfl rfl ⟨bm_md_error, trivial⟩
theorem bm_md_eitherOrBoth {m : Nat} : gfb m (.inr (fn_md_eitherOrBoth m)) := gG_b8 (E := e_md_eitherOrBoth m) rfl rfl ⟨bm_md_task, bm_md_truth, bm_md_has, bm_md_settle, bm_md_push, bm_md_error, trivial⟩
theorem bm_md_nameAt {m : Nat} : gfb m (.inl (fn_md_nameAt m)) := gF_b8 (E := e_md_nameAt m) rfl rfl trivial
theorem bm_md_propertyAt {m : Nat} : gfb m (.inl (fn_md_propertyAt m)) := gF_b8 (E := e_md_propertyAt m) rfl rfl ⟨bm_md_isSame, trivial⟩
theorem bm_md_moves {m : Nat} : gfb m (.inl (fn_md_moves m)) := gF_b8 (E := e_md_moves m) rfl rfl trivial
theorem bm_md_isStale {m : Nat} : gfb m (.inl (fn_md_isStale m)) := gF_b8 (E := e_md_isStale m) rfl rfl ⟨bm_md_isNewest, trivial⟩
theorem bm_md_enter {m : Nat} : gfb m (.inl (fn_md_enter m)) := gF_b8 (E := e_md_enter m) rfl rfl ⟨bm_md_isStale, bm_md_changing, trivial⟩
theorem bm_md_gets {m : Nat} : gfb m (.inr (fn_md_gets m)) := gG_b8 (E := e_md_gets m) rfl rfl ⟨bm_md_task, bm_md_error, bm_md_nameAt, bm_md_propertyAt, bm_md_moves, bm_md_enter, bm_md_push, trivial⟩
theorem bm_md_heirOf {m : Nat} : gfb m (.inl (fn_md_heirOf m)) := gF_b8 (E := e_md_heirOf m) rfl rfl trivial
theorem bm_md_childOf {m : Nat} : gfb m (.inl (fn_md_childOf m)) := gF_b8 (E := e_md_childOf m) rfl rfl ⟨bm_md_isSame, trivial⟩
theorem bm_md_shapeComes {m : Nat} : gfb m (.inl (fn_md_shapeComes m)) := gF_b8 (E := e_md_shapeComes m) rfl rfl ⟨bm_md_keep_2, trivial⟩
theorem bm_md_withLast {m : Nat} : gfb m (.inl (fn_md_withLast m)) := gF_b8 (E := e_md_withLast m) rfl rfl trivial
theorem bm_md_lacking {m : Nat} : gfb m (.inl (fn_md_lacking m)) := gF_b8 (E := e_md_lacking m) rfl rfl ⟨bm_md_withLast, bm_md_childOf, trivial⟩
theorem bm_md_heirComes {m : Nat} : gfb m (.inl (fn_md_heirComes m)) := gF_b8 (E := e_md_heirComes m) rfl rfl ⟨bm_md_withLast, bm_md_childOf, bm_md_shapeComes, trivial⟩
theorem bm_md_endCodesOfShape {m : Nat} : gfb m (.inl (fn_md_endCodesOfShape m)) := gF_b8 (E := e_md_endCodesOfShape m) rfl rfl ⟨bm_md_unit, bm_md_endCode, trivial⟩
theorem bm_md_puts {m : Nat} : gfb m (.inr (fn_md_puts m)) := gG_b8 (E := e_md_puts m) rfl rfl ⟨bm_md_task, bm_md_error, bm_md_nameAt, bm_md_heirOf, bm_md_propertyAt, bm_md_childOf, bm_md_moves, bm_md_shapeComes, bm_md_enter, bm_md_withLast, bm_md_lacking, bm_md_heirComes, bm_md_endCodesOfShape, bm_md_push, trivial⟩
theorem bm_md_prints {m : Nat} : gfb m (.inl (fn_md_prints m)) := gF_b8 (E := e_md_prints m) rfl rfl trivial
theorem bm_md_defines {m : Nat} : gfb m (.inr (fn_md_defines m)) := gG_b8 (E := e_md_defines m) rfl rfl ⟨bm_md_error, bm_md_sizeOf, bm_md_letter, bm_md_readText, bm_md_define, trivial⟩
theorem bm_md_calls {m : Nat} : gfb m (.inr (fn_md_calls m)) := gG_b8 (E := e_md_calls m) rfl rfl ⟨bm_md_task, bm_md_error, bm_md_enter, bm_md_activate, bm_md_more, bm_md_show, bm_md_prints, bm_md_defines, bm_md_push, bm_md_falls, trivial⟩
theorem bm_md_choice {m : Nat} : gfb m (.inr (fn_md_choice m)) := gG_b8 (E := e_md_choice m) rfl rfl ⟨bm_md_truth, bm_md_has, bm_md_settle, trivial⟩
theorem bm_md_repeats {m : Nat} : gfb m (.inr (fn_md_repeats m)) := gG_b8 (E := e_md_repeats m) rfl rfl ⟨bm_md_step, bm_md_falls, bm_md_heat, bm_md_enterCode, bm_md_task, bm_md_choice, trivial⟩
theorem bm_md_works {m : Nat} : gfb m (.inr (fn_md_works m)) := gG_b8 (E := e_md_works m) rfl rfl ⟨bm_md_task, bm_md_reckons, bm_md_orders, bm_md_compares, bm_md_reads, bm_md_begun, bm_md_sets, bm_md_eitherOrBoth, bm_md_truth, bm_md_push, bm_md_gets, bm_md_puts, bm_md_calls, bm_md_choice, bm_md_repeats, bm_md_comesBack, trivial⟩
theorem bm_md_work {m : Nat} : gfb m (.inr (fn_md_work m)) := gG_b8 (E := e_md_work m) rfl rfl ⟨bm_md_row, bm_md_works, trivial⟩
theorem bm_md_goOn {m : Nat} : gfb m (.inl (fn_md_goOn m)) := gF_b8 (E := e_md_goOn m) rfl rfl ⟨bm_md_work, trivial⟩
theorem bm_md_start {m : Nat} : gfb m (.inl (fn_md_start m)) := gF_b8 (E := e_md_start m) rfl rfl ⟨bm_md_keep, bm_md_functionOf, bm_md_noRun, bm_md_push, bm_md_activate, bm_md_goOn, trivial⟩
theorem bm_md_run {m : Nat} : gfb m (.inl (fn_md_run m)) := gF_b8 (E := e_md_run m) rfl rfl ⟨bm_md_goOn, trivial⟩
theorem bm_md_state {m : Nat} : gfb m (.inl (fn_md_state m)) := gF_b8 (E := e_md_state m) rfl rfl trivial
theorem bm_md_error_2 {m : Nat} : gfb m (.inl (fn_md_error_2 m)) := gF_b8 (E := e_md_error_2 m) rfl rfl trivial
theorem bm_md_result {m : Nat} : gfb m (.inl (fn_md_result m)) := gF_b8 (E := e_md_result m) rfl rfl ⟨bm_md_show, trivial⟩
theorem bm_md_out {m : Nat} : gfb m (.inl (fn_md_out m)) := gF_b8 (E := e_md_out m) rfl rfl trivial
theorem bm_md_root {m : Nat} : gfb m (.inl (fn_md_root m)) := gF_b8 (E := e_md_root m) rfl rfl ⟨bm_md_letter, bm_md_isNewest, trivial⟩
theorem bm_md_node {m : Nat} : gfb m (.inl (fn_md_node m)) := gF_b8 (E := e_md_node m) rfl rfl trivial
theorem bm_md_shape {m : Nat} : gfb m (.inl (fn_md_shape m)) := gF_b8 (E := e_md_shape m) rfl rfl ⟨bm_md_letter, trivial⟩
theorem bm_md_code {m : Nat} : gfb m (.inl (fn_md_code m)) := gF_b8 (E := e_md_code m) rfl rfl ⟨bm_md_unit, trivial⟩
theorem bm_md_frame {m : Nat} : gfb m (.inl (fn_md_frame m)) := gF_b8 (E := e_md_frame m) rfl rfl trivial
theorem bm_md_total {m : Nat} : gfb m (.inl (fn_md_total m)) := gF_b8 (E := e_md_total m) rfl rfl trivial

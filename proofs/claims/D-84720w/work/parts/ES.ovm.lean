/-! methods that do not read how far a run's strings and numbers go -/
theorem ri_jm_min {m : Nat} : gRi (.inl (fn_jm_min m)) := gF_ri (E := e_jm_min m) (show gCok f_jm k_jm_min = true by decide +kernel) trivial
theorem ri_jm_max {m : Nat} : gRi (.inl (fn_jm_max m)) := gF_ri (E := e_jm_max m) (show gCok f_jm k_jm_max = true by decide +kernel) trivial
theorem ri_jm_abs {m : Nat} : gRi (.inl (fn_jm_abs m)) := gF_ri (E := e_jm_abs m) (show gCok f_jm k_jm_abs = true by decide +kernel) trivial
theorem ri_jm_multiplyHigh {m : Nat} : gRi (.inl (fn_jm_multiplyHigh m)) := gF_ri (E := e_jm_multiplyHigh m) (show gCok f_jm k_jm_multiplyHigh = true by decide +kernel) trivial
theorem ri_jl_signum {m : Nat} : gRi (.inl (fn_jl_signum m)) := gF_ri (E := e_jl_signum m) (show gCok f_jl k_jl_signum = true by decide +kernel) trivial
theorem ri_jl_compare {m : Nat} : gRi (.inl (fn_jl_compare m)) := gF_ri (E := e_jl_compare m) (show gCok f_jl k_jl_compare = true by decide +kernel) trivial
theorem ri_pc_checkIndex {m : Nat} : gRi (.inl (fn_pc_checkIndex m)) := gF_ri (E := e_pc_checkIndex m) (show gCok f_pc k_pc_checkIndex = true by decide +kernel) trivial
theorem ri_st_checkIndex {m : Nat} : gRi (.inl (fn_st_checkIndex m)) := gF_ri (E := e_st_checkIndex m) (show gCok f_st k_st_checkIndex = true by decide +kernel) ⟨ri_pc_checkIndex, trivial⟩
theorem ri_sl_charAt {m : Nat} : gRi (.inl (fn_sl_charAt m)) := gF_ri (E := e_sl_charAt m) (show gCok f_sl k_sl_charAt = true by decide +kernel) ⟨ri_st_checkIndex, trivial⟩
theorem ri_sl_canEncode {m : Nat} : gRi (.inl (fn_sl_canEncode m)) := gF_ri (E := e_sl_canEncode m) (show gCok f_sl k_sl_canEncode = true by decide +kernel) trivial
theorem ri_sl_indexOfChar {m : Nat} : gRi (.inl (fn_sl_indexOfChar m)) := gF_ri (E := e_sl_indexOfChar m) (show gCok f_sl k_sl_indexOfChar = true by decide +kernel) trivial
theorem ri_sl_indexOf {m : Nat} : gRi (.inl (fn_sl_indexOf m)) := gF_ri (E := e_sl_indexOf m) (show gCok f_sl k_sl_indexOf = true by decide +kernel) ⟨ri_sl_canEncode, ri_jm_max, ri_jm_min, ri_sl_indexOfChar, trivial⟩
theorem ri_sl_indexOf_3 {m : Nat} : gRi (.inl (fn_sl_indexOf_3 m)) := gF_ri (E := e_sl_indexOf_3 m) (show gCok f_sl k_sl_indexOf_3 = true by decide +kernel) trivial
theorem ri_sl_indexOf_2 {m : Nat} : gRi (.inl (fn_sl_indexOf_2 m)) := gF_ri (E := e_sl_indexOf_2 m) (show gCok f_sl k_sl_indexOf_2 = true by decide +kernel) ⟨ri_sl_indexOf_3, trivial⟩
theorem ri_st_coder {m : Nat} : gRi (.inl (fn_st_coder m)) := gF_ri (E := e_st_coder m) (show gCok f_st k_st_coder = true by decide +kernel) trivial
theorem ri_st_length {m : Nat} : gRi (.inl (fn_st_length m)) := gF_ri (E := e_st_length m) (show gCok f_st k_st_length = true by decide +kernel) ⟨ri_st_coder, trivial⟩
theorem ri_st_isLatin1 {m : Nat} : gRi (.inl (fn_st_isLatin1 m)) := gF_ri (E := e_st_isLatin1 m) (show gCok f_st k_st_isLatin1 = true by decide +kernel) trivial
theorem ri_st_charAt {m : Nat} : gRi (.inl (fn_st_charAt m)) := gF_ri (E := e_st_charAt m) (show gCok f_st k_st_charAt = true by decide +kernel) ⟨ri_st_isLatin1, ri_sl_charAt, trivial⟩
theorem ri_st_indexOf {m : Nat} : gRi (.inl (fn_st_indexOf m)) := gF_ri (E := e_st_indexOf m) (show gCok f_st k_st_indexOf = true by decide +kernel) ⟨ri_st_isLatin1, ri_st_length, ri_sl_indexOf, trivial⟩
theorem ri_st_indexOf_2 {m : Nat} : gRi (.inl (fn_st_indexOf_2 m)) := gF_ri (E := e_st_indexOf_2 m) (show gCok f_st k_st_indexOf_2 = true by decide +kernel) ⟨ri_st_indexOf, trivial⟩
theorem ri_st_indexOf_3 {m : Nat} : gRi (.inl (fn_st_indexOf_3 m)) := gF_ri (E := e_st_indexOf_3 m) (show gCok f_st k_st_indexOf_3 = true by decide +kernel) ⟨ri_st_coder, ri_st_isLatin1, ri_sl_indexOf_2, trivial⟩
theorem ri_md_hash {m : Nat} : gRi (.inl (fn_md_hash m)) := gF_ri (E := e_md_hash m) (show gCok f_md k_md_hash = true by decide +kernel) trivial
theorem ri_md_find {m : Nat} : gRi (.inl (fn_md_find m)) := gF_ri (E := e_md_find m) (show gCok f_md k_md_find = true by decide +kernel) trivial
theorem ri_md_keep_2 {m : Nat} : gRi (.inl (fn_md_keep_2 m)) := gF_ri (E := e_md_keep_2 m) (show gCok f_md k_md_keep_2 = true by decide +kernel) ⟨ri_md_hash, ri_md_find, trivial⟩
theorem ri_md_keep {m : Nat} : gRi (.inl (fn_md_keep m)) := gF_ri (E := e_md_keep m) (show gCok f_md k_md_keep = true by decide +kernel) ⟨ri_st_length, ri_st_charAt, ri_md_keep_2, trivial⟩
theorem ri_md_functionOf {m : Nat} : gRi (.inl (fn_md_functionOf m)) := gF_ri (E := e_md_functionOf m) (show gCok f_md k_md_functionOf = true by decide +kernel) trivial
theorem ri_md_unit {m : Nat} : gRi (.inl (fn_md_unit m)) := gF_ri (E := e_md_unit m) (show gCok f_md k_md_unit = true by decide +kernel) trivial
theorem ri_md_endCode {m : Nat} : gRi (.inl (fn_md_endCode m)) := gF_ri (E := e_md_endCode m) (show gCok f_md k_md_endCode = true by decide +kernel) trivial
theorem ri_md_endCodesOfFunction {m : Nat} : gRi (.inl (fn_md_endCodesOfFunction m)) := gF_ri (E := e_md_endCodesOfFunction m) (show gCok f_md k_md_endCodesOfFunction = true by decide +kernel) ⟨ri_md_unit, ri_md_endCode, trivial⟩
theorem ri_md_rootComes {m : Nat} : gRi (.inl (fn_md_rootComes m)) := gF_ri (E := e_md_rootComes m) (show gCok f_md k_md_rootComes = true by decide +kernel) ⟨ri_md_endCodesOfFunction, trivial⟩
theorem ri_md_houseBegins {m : Nat} : gRi (.inl (fn_md_houseBegins m)) := gF_ri (E := e_md_houseBegins m) (show gCok f_md k_md_houseBegins = true by decide +kernel) ⟨ri_md_keep, ri_md_functionOf, ri_md_rootComes, trivial⟩
theorem ri_md_isNewest {m : Nat} : gRi (.inl (fn_md_isNewest m)) := gF_ri (E := e_md_isNewest m) (show gCok f_md k_md_isNewest = true by decide +kernel) trivial
theorem ri_md_addUnit {m : Nat} : gRi (.inl (fn_md_addUnit m)) := gF_ri (E := e_md_addUnit m) (show gCok f_md k_md_addUnit = true by decide +kernel) ⟨ri_md_unit, trivial⟩
theorem ri_md_isSure {m : Nat} : gRi (.inl (fn_md_isSure m)) := gF_ri (E := e_md_isSure m) (show gCok f_md k_md_isSure = true by decide +kernel) trivial
theorem ri_md_guards {m : Nat} : gRi (.inl (fn_md_guards m)) := gF_ri (E := e_md_guards m) (show gCok f_md k_md_guards = true by decide +kernel) ⟨ri_md_isSure, ri_jm_max, trivial⟩
theorem ri_md_mayLie {m : Nat} : gRi (.inl (fn_md_mayLie m)) := gF_ri (E := e_md_mayLie m) (show gCok f_md k_md_mayLie = true by decide +kernel) ⟨ri_md_isNewest, ri_md_unit, trivial⟩
theorem ri_md_makeCode {m : Nat} : gRi (.inl (fn_md_makeCode m)) := gF_ri (E := e_md_makeCode m) (show gCok f_md k_md_makeCode = true by decide +kernel) ⟨ri_md_addUnit, ri_md_unit, ri_md_guards, ri_md_mayLie, trivial⟩
theorem ri_md_compile {m : Nat} : gRi (.inl (fn_md_compile m)) := gF_ri (E := e_md_compile m) (show gCok f_md k_md_compile = true by decide +kernel) ⟨ri_md_isNewest, ri_md_makeCode, trivial⟩
theorem ri_md_feed {m : Nat} : gRi (.inl (fn_md_feed m)) := gF_ri (E := e_md_feed m) (show gCok f_md k_md_feed = true by decide +kernel) trivial
theorem ri_md_noRun {m : Nat} : gRi (.inl (fn_md_noRun m)) := gF_ri (E := e_md_noRun m) (show gCok f_md k_md_noRun = true by decide +kernel) trivial
theorem ri_md_sign {m : Nat} : gRi (.inl (fn_md_sign m)) := gF_ri (E := e_md_sign m) (show gCok f_md k_md_sign = true by decide +kernel) trivial
theorem ri_md_blanks {m : Nat} : gRi (.inl (fn_md_blanks m)) := gF_ri (E := e_md_blanks m) (show gCok f_md k_md_blanks = true by decide +kernel) ⟨ri_md_sign, trivial⟩
theorem ri_md_isLetter {m : Nat} : gRi (.inl (fn_md_isLetter m)) := gF_ri (E := e_md_isLetter m) (show gCok f_md k_md_isLetter = true by decide +kernel) trivial
theorem ri_md_isDigit {m : Nat} : gRi (.inl (fn_md_isDigit m)) := gF_ri (E := e_md_isDigit m) (show gCok f_md k_md_isDigit = true by decide +kernel) trivial
theorem ri_md_fails {m : Nat} : gRi (.inl (fn_md_fails m)) := gF_ri (E := e_md_fails m) (show gCok f_md k_md_fails = true by decide +kernel) trivial
theorem ri_md_word {m : Nat} : gRi (.inl (fn_md_word m)) := gF_ri (E := e_md_word m) (show gCok f_md k_md_word = true by decide +kernel) ⟨ri_st_length, ri_st_charAt, ri_md_sign, trivial⟩
theorem ri_md_string {m : Nat} : gRi (.inr (fn_md_string m)) := gG_ri (E := e_md_string m) (show gCok f_md k_md_string = true by decide +kernel) ⟨ri_md_sign, ri_md_fails, trivial⟩
theorem ri_md_signs {m : Nat} : gRi (.inr (fn_md_signs m)) := gG_ri (E := e_md_signs m) (show gCok f_md k_md_signs = true by decide +kernel) ⟨ri_st_length, ri_st_charAt, ri_md_fails, ri_md_sign, trivial⟩
theorem ri_md_take {m : Nat} : gRi (.inr (fn_md_take m)) := gG_ri (E := e_md_take m) (show gCok f_md k_md_take = true by decide +kernel) ⟨ri_md_blanks, ri_md_sign, ri_md_isLetter, ri_md_isDigit, ri_md_fails, ri_md_word, ri_md_string, ri_md_signs, trivial⟩
theorem ri_md_need {m : Nat} : gRi (.inr (fn_md_need m)) := gG_ri (E := e_md_need m) (show gCok f_md k_md_need = true by decide +kernel) ⟨ri_md_fails, trivial⟩
theorem ri_md_opens {m : Nat} : gRi (.inr (fn_md_opens m)) := gG_ri (E := e_md_opens m) (show gCok f_md k_md_opens = true by decide +kernel) ⟨ri_md_fails, trivial⟩
theorem ri_md_pass {m : Nat} : gRi (.inr (fn_md_pass m)) := gG_ri (E := e_md_pass m) (show gCok f_md k_md_pass = true by decide +kernel) ⟨ri_md_need, ri_md_opens, ri_md_take, trivial⟩
theorem ri_md_isWord {m : Nat} : gRi (.inl (fn_md_isWord m)) := gF_ri (E := e_md_isWord m) (show gCok f_md k_md_isWord = true by decide +kernel) trivial
theorem ri_md_localOf {m : Nat} : gRi (.inl (fn_md_localOf m)) := gF_ri (E := e_md_localOf m) (show gCok f_md k_md_localOf = true by decide +kernel) ⟨ri_md_isWord, trivial⟩
theorem ri_md_newNode {m : Nat} : gRi (.inr (fn_md_newNode m)) := gG_ri (E := e_md_newNode m) (show gCok f_md k_md_newNode = true by decide +kernel) ⟨ri_md_fails, trivial⟩
theorem ri_md_addLocal {m : Nat} : gRi (.inl (fn_md_addLocal m)) := gF_ri (E := e_md_addLocal m) (show gCok f_md k_md_addLocal = true by decide +kernel) trivial
theorem ri_md_canBegin {m : Nat} : gRi (.inl (fn_md_canBegin m)) := gF_ri (E := e_md_canBegin m) (show gCok f_md k_md_canBegin = true by decide +kernel) trivial
theorem ri_md_pair {m : Nat} : gRi (.inr (fn_md_pair m)) := gG_ri (E := e_md_pair m) (show gCok f_md k_md_pair = true by decide +kernel) ⟨ri_md_newNode, ri_md_take, trivial⟩
theorem ri_rec_md_added {m : Nat} : ∀ (d k : Nat), gRi (.inr (rec_md_added m d k))
  | 0, _ => gRi_none2
  | d + 1, k => by
    have h := ri_rec_md_added (m := m) d
    match k with
    | 0 => exact gG_ri (E := e_md_added m (rec_md_added m d)) (show gCok f_md k_md_added = true by decide +kernel) ⟨(h 8), ri_md_pair, trivial⟩
    | 1 => exact gG_ri (E := e_md_atom m (rec_md_added m d)) (show gCok f_md k_md_atom = true by decide +kernel) ⟨ri_md_newNode, ri_md_pass, (h 4), ri_md_fails, ri_md_take, trivial⟩
    | 2 => exact gG_ri (E := e_md_both m (rec_md_added m d)) (show gCok f_md k_md_both = true by decide +kernel) ⟨(h 9), ri_md_pair, trivial⟩
    | 3 => exact gG_ri (E := e_md_call m (rec_md_added m d)) (show gCok f_md k_md_call = true by decide +kernel) ⟨ri_md_opens, ri_md_newNode, ri_md_take, ri_md_canBegin, ri_md_fails, (h 4), ri_md_pass, trivial⟩
    | 4 => exact gG_ri (E := e_md_e m (rec_md_added m d)) (show gCok f_md k_md_e = true by decide +kernel) ⟨(h 5), ri_md_fails, ri_md_opens, ri_md_localOf, ri_md_addLocal, ri_md_take, (h 4), trivial⟩
    | 5 => exact gG_ri (E := e_md_either m (rec_md_added m d)) (show gCok f_md k_md_either = true by decide +kernel) ⟨(h 2), ri_md_pair, trivial⟩
    | 6 => exact gG_ri (E := e_md_get m (rec_md_added m d)) (show gCok f_md k_md_get = true by decide +kernel) ⟨ri_md_opens, ri_md_newNode, ri_md_take, ri_md_need, (h 4), ri_md_pass, trivial⟩
    | 7 => exact gG_ri (E := e_md_less m (rec_md_added m d)) (show gCok f_md k_md_less = true by decide +kernel) ⟨(h 0), ri_md_pair, trivial⟩
    | 8 => exact gG_ri (E := e_md_product m (rec_md_added m d)) (show gCok f_md k_md_product = true by decide +kernel) ⟨(h 10), ri_md_pair, trivial⟩
    | 9 => exact gG_ri (E := e_md_same m (rec_md_added m d)) (show gCok f_md k_md_same = true by decide +kernel) ⟨(h 7), ri_md_pair, trivial⟩
    | _ + 10 => exact gG_ri (E := e_md_unary m (rec_md_added m d)) (show gCok f_md k_md_unary = true by decide +kernel) ⟨ri_md_opens, ri_md_newNode, ri_md_take, (h 10), (h 1), (h 3), (h 6), trivial⟩
theorem ri_rec_md_block {m : Nat} : ∀ (d k : Nat), gRi (.inr (rec_md_block m d k))
  | 0, _ => gRi_none2
  | d + 1, k => by
    have h := ri_rec_md_block (m := m) d
    match k with
    | 0 => exact gG_ri (E := e_md_block m (rec_md_block m d)) (show gCok f_md k_md_block = true by decide +kernel) ⟨ri_md_pass, (h 1), trivial⟩
    | _ + 1 => exact gG_ri (E := e_md_statement m (rec_md_block m d)) (show gCok f_md k_md_statement = true by decide +kernel) ⟨ri_md_newNode, ri_md_take, ri_md_pass, (ri_rec_md_added 300 4), (h 0), ri_md_fails, trivial⟩
theorem ri_md_function {m : Nat} : gRi (.inr (fn_md_function m)) := gG_ri (E := e_md_function m) (show gCok f_md k_md_function = true by decide +kernel) ⟨ri_md_pass, ri_md_need, ri_md_fails, ri_md_isWord, ri_md_take, ri_md_localOf, ri_md_newNode, ri_md_addLocal, (ri_rec_md_block 60 0), trivial⟩
theorem ri_md_readText {m : Nat} : gRi (.inr (fn_md_readText m)) := gG_ri (E := e_md_readText m) (show gCok f_md k_md_readText = true by decide +kernel) ⟨ri_md_take, ri_md_function, trivial⟩
theorem ri_rec_md_number {m : Nat} : ∀ (d k : Nat), gRi (.inl (rec_md_number m d k))
  | 0, _ => gRi_none
  | d + 1, k => by
    have h := ri_rec_md_number (m := m) d
    match k with
    | _ => exact gF_ri (E := e_md_number m (rec_md_number m d)) (show gCok f_md k_md_number = true by decide +kernel) ⟨(h 0), trivial⟩
theorem ri_md_numberOf {m : Nat} : gRi (.inl (fn_md_numberOf m)) := gF_ri (E := e_md_numberOf m) (show gCok f_md k_md_numberOf = true by decide +kernel) trivial
theorem ri_md_fitsLong {m : Nat} : gRi (.inl (fn_md_fitsLong m)) := gF_ri (E := e_md_fitsLong m) (show gCok f_md k_md_fitsLong = true by decide +kernel) trivial
theorem ri_md_asLong {m : Nat} : gRi (.inl (fn_md_asLong m)) := gF_ri (E := e_md_asLong m) (show gCok f_md k_md_asLong = true by decide +kernel) trivial
theorem ri_md_number_2 {m : Nat} : gRi (.inl (fn_md_number_2 m)) := gF_ri (E := e_md_number_2 m) (show gCok f_md k_md_number_2 = true by decide +kernel) ⟨ri_md_fitsLong, ri_md_asLong, trivial⟩
theorem ri_md_lay {m : Nat} : gRi (.inl (fn_md_lay m)) := gF_ri (E := e_md_lay m) (show gCok f_md k_md_lay = true by decide +kernel) ⟨ri_md_numberOf, ri_md_isWord, ri_md_number_2, ri_md_keep_2, ri_md_functionOf, trivial⟩
theorem ri_md_define {m : Nat} : gRi (.inl (fn_md_define m)) := gF_ri (E := e_md_define m) (show gCok f_md k_md_define = true by decide +kernel) ⟨(ri_rec_md_number 320 0), ri_md_lay, ri_md_numberOf, ri_md_keep_2, ri_md_functionOf, ri_md_rootComes, trivial⟩
theorem ri_md_load {m : Nat} : gRi (.inl (fn_md_load m)) := gF_ri (E := e_md_load m) (show gCok f_md k_md_load = true by decide +kernel) ⟨ri_md_noRun, ri_md_readText, ri_md_houseBegins, ri_md_define, trivial⟩
theorem ri_md_fault {m : Nat} : gRi (.inl (fn_md_fault m)) := gF_ri (E := e_md_fault m) (show gCok f_md k_md_fault = true by decide +kernel) trivial
theorem ri_md_push {m : Nat} : gRi (.inl (fn_md_push m)) := gF_ri (E := e_md_push m) (show gCok f_md k_md_push = true by decide +kernel) trivial
theorem ri_md_more {m : Nat} : gRi (.inl (fn_md_more m)) := gF_ri (E := e_md_more m) (show gCok f_md k_md_more = true by decide +kernel) trivial
theorem ri_md_unitAt {m : Nat} : gRi (.inl (fn_md_unitAt m)) := gF_ri (E := e_md_unitAt m) (show gCok f_md k_md_unitAt = true by decide +kernel) ⟨ri_md_unit, trivial⟩
theorem ri_md_heat {m : Nat} : gRi (.inl (fn_md_heat m)) := gF_ri (E := e_md_heat m) (show gCok f_md k_md_heat = true by decide +kernel) ⟨ri_md_more, ri_md_isNewest, trivial⟩
theorem ri_md_enterCode {m : Nat} : gRi (.inl (fn_md_enterCode m)) := gF_ri (E := e_md_enterCode m) (show gCok f_md k_md_enterCode = true by decide +kernel) ⟨ri_md_more, trivial⟩
theorem ri_md_has {m : Nat} : gRi (.inl (fn_md_has m)) := gF_ri (E := e_md_has m) (show gCok f_md k_md_has = true by decide +kernel) trivial
theorem ri_md_may {m : Nat} : gRi (.inl (fn_md_may m)) := gF_ri (E := e_md_may m) (show gCok f_md k_md_may = true by decide +kernel) trivial
theorem ri_md_leave {m : Nat} : gRi (.inl (fn_md_leave m)) := gF_ri (E := e_md_leave m) (show gCok f_md k_md_leave = true by decide +kernel) trivial
theorem ri_md_endCodesOfRoot {m : Nat} : gRi (.inl (fn_md_endCodesOfRoot m)) := gF_ri (E := e_md_endCodesOfRoot m) (show gCok f_md k_md_endCodesOfRoot = true by decide +kernel) ⟨ri_md_unit, ri_md_endCode, trivial⟩
theorem ri_md_changing {m : Nat} : gRi (.inl (fn_md_changing m)) := gF_ri (E := e_md_changing m) (show gCok f_md k_md_changing = true by decide +kernel) ⟨ri_md_leave, ri_md_endCodesOfRoot, trivial⟩
theorem ri_md_settle {m : Nat} : gRi (.inl (fn_md_settle m)) := gF_ri (E := e_md_settle m) (show gCok f_md k_md_settle = true by decide +kernel) ⟨ri_md_changing, trivial⟩
theorem ri_md_setsAnew {m : Nat} : gRi (.inl (fn_md_setsAnew m)) := gF_ri (E := e_md_setsAnew m) (show gCok f_md k_md_setsAnew = true by decide +kernel) ⟨ri_md_may, ri_md_settle, trivial⟩
theorem ri_md_sets {m : Nat} : gRi (.inl (fn_md_sets m)) := gF_ri (E := e_md_sets m) (show gCok f_md k_md_sets = true by decide +kernel) ⟨ri_md_has, ri_md_setsAnew, trivial⟩
theorem ri_md_task {m : Nat} : gRi (.inl (fn_md_task m)) := gF_ri (E := e_md_task m) (show gCok f_md k_md_task = true by decide +kernel) trivial
theorem ri_md_activate {m : Nat} : gRi (.inl (fn_md_activate m)) := gF_ri (E := e_md_activate m) (show gCok f_md k_md_activate = true by decide +kernel) ⟨ri_md_more, ri_jm_max, ri_md_unitAt, ri_md_heat, ri_md_enterCode, ri_md_sets, ri_md_task, trivial⟩
theorem ri_md_falls {m : Nat} : gRi (.inl (fn_md_falls m)) := gF_ri (E := e_md_falls m) (show gCok f_md k_md_falls = true by decide +kernel) ⟨ri_md_leave, trivial⟩
theorem ri_md_comesBack {m : Nat} : gRi (.inl (fn_md_comesBack m)) := gF_ri (E := e_md_comesBack m) (show gCok f_md k_md_comesBack = true by decide +kernel) ⟨ri_md_push, ri_md_falls, trivial⟩
theorem ri_md_error {m : Nat} : gRi (.inl (fn_md_error m)) := gF_ri (E := e_md_error m) (show gCok f_md k_md_error = true by decide +kernel) trivial
theorem ri_md_sizeOf {m : Nat} : gRi (.inl (fn_md_sizeOf m)) := gF_ri (E := e_md_sizeOf m) (show gCok f_md k_md_sizeOf = true by decide +kernel) trivial
theorem ri_md_letter {m : Nat} : gRi (.inl (fn_md_letter m)) := gF_ri (E := e_md_letter m) (show gCok f_md k_md_letter = true by decide +kernel) ⟨ri_md_sizeOf, trivial⟩
theorem ri_md_write {m : Nat} : gRi (.inl (fn_md_write m)) := gF_ri (E := e_md_write m) (show gCok f_md k_md_write = true by decide +kernel) ⟨ri_md_sizeOf, ri_md_letter, trivial⟩
theorem ri_md_spread {m : Nat} : gRi (.inl (fn_md_spread m)) := gF_ri (E := e_md_spread m) (show gCok f_md k_md_spread = true by decide +kernel) trivial
theorem ri_md_digits {m : Nat} : gRi (.inl (fn_md_digits m)) := gF_ri (E := e_md_digits m) (show gCok f_md k_md_digits = true by decide +kernel) ⟨ri_md_spread, trivial⟩
theorem ri_md_show {m : Nat} : gRi (.inl (fn_md_show m)) := gF_ri (E := e_md_show m) (show gCok f_md k_md_show = true by decide +kernel) ⟨ri_md_write, ri_md_digits, trivial⟩
theorem ri_md_pairBecomes {m : Nat} : gRi (.inl (fn_md_pairBecomes m)) := gF_ri (E := e_md_pairBecomes m) (show gCok f_md k_md_pairBecomes = true by decide +kernel) ⟨ri_md_push, trivial⟩
theorem ri_md_isNumber {m : Nat} : gRi (.inl (fn_md_isNumber m)) := gF_ri (E := e_md_isNumber m) (show gCok f_md k_md_isNumber = true by decide +kernel) trivial
theorem ri_md_isZero {m : Nat} : gRi (.inl (fn_md_isZero m)) := gF_ri (E := e_md_isZero m) (show gCok f_md k_md_isZero = true by decide +kernel) trivial
theorem ri_md_compareSizes {m : Nat} : gRi (.inl (fn_md_compareSizes m)) := gF_ri (E := e_md_compareSizes m) (show gCok f_md k_md_compareSizes = true by decide +kernel) trivial
theorem ri_md_divides {m : Nat} : gRi (.inl (fn_md_divides m)) := gF_ri (E := e_md_divides m) (show gCok f_md k_md_divides = true by decide +kernel) ⟨ri_md_compareSizes, trivial⟩
theorem ri_md_multiplies {m : Nat} : gRi (.inl (fn_md_multiplies m)) := gF_ri (E := e_md_multiplies m) (show gCok f_md k_md_multiplies = true by decide +kernel) trivial
theorem ri_md_adds {m : Nat} : gRi (.inl (fn_md_adds m)) := gF_ri (E := e_md_adds m) (show gCok f_md k_md_adds = true by decide +kernel) ⟨ri_md_compareSizes, trivial⟩
theorem ri_md_compare {m : Nat} : gRi (.inl (fn_md_compare m)) := gF_ri (E := e_md_compare m) (show gCok f_md k_md_compare = true by decide +kernel) ⟨ri_md_isZero, ri_md_compareSizes, trivial⟩
theorem ri_md_comparePair {m : Nat} : gRi (.inl (fn_md_comparePair m)) := gF_ri (E := e_md_comparePair m) (show gCok f_md k_md_comparePair = true by decide +kernel) ⟨ri_md_spread, ri_md_compare, trivial⟩
theorem ri_md_orders {m : Nat} : gRi (.inr (fn_md_orders m)) := gG_ri (E := e_md_orders m) (show gCok f_md k_md_orders = true by decide +kernel) ⟨ri_md_isNumber, ri_md_error, ri_md_has, ri_md_settle, ri_md_comparePair, ri_md_pairBecomes, trivial⟩
theorem ri_md_isSame {m : Nat} : gRi (.inl (fn_md_isSame m)) := gF_ri (E := e_md_isSame m) (show gCok f_md k_md_isSame = true by decide +kernel) trivial
theorem ri_md_compares {m : Nat} : gRi (.inl (fn_md_compares m)) := gF_ri (E := e_md_compares m) (show gCok f_md k_md_compares = true by decide +kernel) ⟨ri_md_has, ri_md_settle, ri_md_isNumber, ri_md_comparePair, ri_md_isSame, ri_md_pairBecomes, trivial⟩
theorem ri_md_reads {m : Nat} : gRi (.inl (fn_md_reads m)) := gF_ri (E := e_md_reads m) (show gCok f_md k_md_reads = true by decide +kernel) ⟨ri_md_has, ri_md_settle, ri_md_push, trivial⟩
theorem ri_md_begun {m : Nat} : gRi (.inl (fn_md_begun m)) := gF_ri (E := e_md_begun m) (show gCok f_md k_md_begun = true by decide +kernel) ⟨ri_md_task, trivial⟩
theorem ri_md_truth {m : Nat} : gRi (.inr (fn_md_truth m)) := gG_ri (E := e_md_truth m) (show gCok f_md k_md_truth = true by decide +kernel) ⟨ri_md_error, trivial⟩
theorem ri_md_eitherOrBoth {m : Nat} : gRi (.inr (fn_md_eitherOrBoth m)) := gG_ri (E := e_md_eitherOrBoth m) (show gCok f_md k_md_eitherOrBoth = true by decide +kernel) ⟨ri_md_task, ri_md_truth, ri_md_has, ri_md_settle, ri_md_push, ri_md_error, trivial⟩
theorem ri_md_nameAt {m : Nat} : gRi (.inl (fn_md_nameAt m)) := gF_ri (E := e_md_nameAt m) (show gCok f_md k_md_nameAt = true by decide +kernel) trivial
theorem ri_md_propertyAt {m : Nat} : gRi (.inl (fn_md_propertyAt m)) := gF_ri (E := e_md_propertyAt m) (show gCok f_md k_md_propertyAt = true by decide +kernel) ⟨ri_md_isSame, trivial⟩
theorem ri_md_moves {m : Nat} : gRi (.inl (fn_md_moves m)) := gF_ri (E := e_md_moves m) (show gCok f_md k_md_moves = true by decide +kernel) trivial
theorem ri_md_isStale {m : Nat} : gRi (.inl (fn_md_isStale m)) := gF_ri (E := e_md_isStale m) (show gCok f_md k_md_isStale = true by decide +kernel) ⟨ri_md_isNewest, trivial⟩
theorem ri_md_enter {m : Nat} : gRi (.inl (fn_md_enter m)) := gF_ri (E := e_md_enter m) (show gCok f_md k_md_enter = true by decide +kernel) ⟨ri_md_isStale, ri_md_changing, trivial⟩
theorem ri_md_gets {m : Nat} : gRi (.inr (fn_md_gets m)) := gG_ri (E := e_md_gets m) (show gCok f_md k_md_gets = true by decide +kernel) ⟨ri_md_task, ri_md_error, ri_md_nameAt, ri_md_propertyAt, ri_md_moves, ri_md_enter, ri_md_push, trivial⟩
theorem ri_md_heirOf {m : Nat} : gRi (.inl (fn_md_heirOf m)) := gF_ri (E := e_md_heirOf m) (show gCok f_md k_md_heirOf = true by decide +kernel) trivial
theorem ri_md_childOf {m : Nat} : gRi (.inl (fn_md_childOf m)) := gF_ri (E := e_md_childOf m) (show gCok f_md k_md_childOf = true by decide +kernel) ⟨ri_md_isSame, trivial⟩
theorem ri_md_shapeComes {m : Nat} : gRi (.inl (fn_md_shapeComes m)) := gF_ri (E := e_md_shapeComes m) (show gCok f_md k_md_shapeComes = true by decide +kernel) ⟨ri_md_keep_2, trivial⟩
theorem ri_md_withLast {m : Nat} : gRi (.inl (fn_md_withLast m)) := gF_ri (E := e_md_withLast m) (show gCok f_md k_md_withLast = true by decide +kernel) trivial
theorem ri_md_lacking {m : Nat} : gRi (.inl (fn_md_lacking m)) := gF_ri (E := e_md_lacking m) (show gCok f_md k_md_lacking = true by decide +kernel) ⟨ri_md_withLast, ri_md_childOf, trivial⟩
theorem ri_md_heirComes {m : Nat} : gRi (.inl (fn_md_heirComes m)) := gF_ri (E := e_md_heirComes m) (show gCok f_md k_md_heirComes = true by decide +kernel) ⟨ri_md_withLast, ri_md_childOf, ri_md_shapeComes, trivial⟩
theorem ri_md_endCodesOfShape {m : Nat} : gRi (.inl (fn_md_endCodesOfShape m)) := gF_ri (E := e_md_endCodesOfShape m) (show gCok f_md k_md_endCodesOfShape = true by decide +kernel) ⟨ri_md_unit, ri_md_endCode, trivial⟩
theorem ri_md_puts {m : Nat} : gRi (.inr (fn_md_puts m)) := gG_ri (E := e_md_puts m) (show gCok f_md k_md_puts = true by decide +kernel) ⟨ri_md_task, ri_md_error, ri_md_nameAt, ri_md_heirOf, ri_md_propertyAt, ri_md_childOf, ri_md_moves, ri_md_shapeComes, ri_md_enter, ri_md_withLast, ri_md_lacking, ri_md_heirComes, ri_md_endCodesOfShape, ri_md_push, trivial⟩
theorem ri_md_prints {m : Nat} : gRi (.inl (fn_md_prints m)) := gF_ri (E := e_md_prints m) (show gCok f_md k_md_prints = true by decide +kernel) trivial
theorem ri_md_defines {m : Nat} : gRi (.inr (fn_md_defines m)) := gG_ri (E := e_md_defines m) (show gCok f_md k_md_defines = true by decide +kernel) ⟨ri_md_error, ri_md_sizeOf, ri_md_letter, ri_md_readText, ri_md_define, trivial⟩
theorem ri_md_calls {m : Nat} : gRi (.inr (fn_md_calls m)) := gG_ri (E := e_md_calls m) (show gCok f_md k_md_calls = true by decide +kernel) ⟨ri_md_task, ri_md_error, ri_md_enter, ri_md_activate, ri_md_more, ri_md_show, ri_md_prints, ri_md_defines, ri_md_push, ri_md_falls, trivial⟩
theorem ri_md_choice {m : Nat} : gRi (.inr (fn_md_choice m)) := gG_ri (E := e_md_choice m) (show gCok f_md k_md_choice = true by decide +kernel) ⟨ri_md_truth, ri_md_has, ri_md_settle, trivial⟩
theorem ri_md_state {m : Nat} : gRi (.inl (fn_md_state m)) := gF_ri (E := e_md_state m) (show gCok f_md k_md_state = true by decide +kernel) trivial
theorem ri_md_error_2 {m : Nat} : gRi (.inl (fn_md_error_2 m)) := gF_ri (E := e_md_error_2 m) (show gCok f_md k_md_error_2 = true by decide +kernel) trivial
theorem ri_md_result {m : Nat} : gRi (.inl (fn_md_result m)) := gF_ri (E := e_md_result m) (show gCok f_md k_md_result = true by decide +kernel) ⟨ri_md_show, trivial⟩
theorem ri_md_out {m : Nat} : gRi (.inl (fn_md_out m)) := gF_ri (E := e_md_out m) (show gCok f_md k_md_out = true by decide +kernel) trivial
theorem ri_md_root {m : Nat} : gRi (.inl (fn_md_root m)) := gF_ri (E := e_md_root m) (show gCok f_md k_md_root = true by decide +kernel) ⟨ri_md_letter, ri_md_isNewest, trivial⟩
theorem ri_md_node {m : Nat} : gRi (.inl (fn_md_node m)) := gF_ri (E := e_md_node m) (show gCok f_md k_md_node = true by decide +kernel) trivial
theorem ri_md_shape {m : Nat} : gRi (.inl (fn_md_shape m)) := gF_ri (E := e_md_shape m) (show gCok f_md k_md_shape = true by decide +kernel) ⟨ri_md_letter, trivial⟩
theorem ri_md_code {m : Nat} : gRi (.inl (fn_md_code m)) := gF_ri (E := e_md_code m) (show gCok f_md k_md_code = true by decide +kernel) ⟨ri_md_unit, trivial⟩
theorem ri_md_frame {m : Nat} : gRi (.inl (fn_md_frame m)) := gF_ri (E := e_md_frame m) (show gCok f_md k_md_frame = true by decide +kernel) trivial
theorem ri_md_total {m : Nat} : gRi (.inl (fn_md_total m)) := gF_ri (E := e_md_total m) (show gCok f_md k_md_total = true by decide +kernel) trivial

/-! the component plants what is worked out: its steps one by one -/
section QM
variable {σ S : gM} {N : Int → Int}
theorem QT_mv (c : ∀ e, 70 ≤ e → e ≤ 78 → S e = σ e) : ∀ (d m : Nat) (a b n k : Int), QT S N d m a b n k = QT σ N d m a b n k
  | 0, _, _, _, _, _ => rfl
  | d + 1, 0, a, b, n, k => by
    simp only [QT, QT_mv c d, nd_mv c, c 70 (by decide) (by decide), c 72 (by decide) (by decide), c 73 (by decide) (by decide), c 74 (by decide) (by decide)]
  | d + 1, 1, a, b, n, k => by
    simp only [QT, QT_mv c d, nd_mv c, c 75 (by decide) (by decide)]
  | d + 1, 2, a, b, n, k => by
    simp only [QT, QT_mv c d, nd_mv c, c 75 (by decide) (by decide)]
  | d + 1, m + 3, a, b, n, k => by
    simp only [QT, QT_mv c d, nd_mv c, c 70 (by decide) (by decide), c 72 (by decide) (by decide), c 73 (by decide) (by decide), c 74 (by decide) (by decide)]
end QM
section W2
variable {σ S1 S2 S3 : gM} {n k : Int} {d : Nat}
theorem w2_1 (h : σ 8 32 = 68) (hn : 0 ≤ n ∧ n < 4200) (e : σ 70 n = 1) (e1 : fr_number σ k n = some (S1, 0)) : fr_work_2 (d + 1) σ n k = some (S1, 0) := by
  rw [fr_work_2_e, if_pos (by omega), if_pos hn, if_pos e, e1]
  rfl
theorem w2_2 {s : Int} (h : σ 8 32 = 68) (h3 : 0 ≤ σ 8 33) (hn : 0 ≤ n ∧ n < 4200) (e : σ 70 n = 2) (e1 : hp_string σ (σ 8 33) (w32 ((w32 ((σ 8 34) + (σ 76 n))) + 1)) (w32 ((σ 77 n) - 2)) = some (S1, s)) (e2 : fr_constant S1 k 2 s = some (S2, 0)) : fr_work_2 (d + 1) σ n k = some (S2, 0) := by
  have h' : 0 ≤ σ 8 32 := by omega
  rw [fr_work_2_e, if_pos h', if_pos hn, if_neg (by omega), if_pos e, if_pos h3, if_pos h', if_pos hn, if_pos h', if_pos hn, e1]
  simp only [Option.bind_some]
  rw [e2]
  rfl
theorem w2_3 (h : σ 8 32 = 68) (hn : 0 ≤ n ∧ n < 4200) (e : σ 70 n = 3) (e1 : fr_constant σ k 3 (if σ 77 n = 4 then 1 else 0) = some (S1, 0)) : fr_work_2 (d + 1) σ n k = some (S1, 0) := by
  have h' : 0 ≤ σ 8 32 := by omega
  rw [fr_work_2_e, if_pos h', if_pos hn, if_neg (by omega), if_neg (by omega), if_pos e, if_pos h', if_pos hn]
  by_cases z : σ 77 n = 4
  · rw [if_pos z] at e1
    rw [if_pos z, fr_work_2_b194_e, e1]
    rfl
  · rw [if_neg z] at e1
    rw [if_neg z, fr_work_2_b194_e, e1]
    rfl
theorem w2_4 (h : σ 8 32 = 68) (hn : 0 ≤ n ∧ n < 4200) (e : σ 70 n = 4) (e1 : fr_constant σ k 4 0 = some (S1, 0)) : fr_work_2 (d + 1) σ n k = some (S1, 0) := by
  have h' : 0 ≤ σ 8 32 := by omega
  rw [fr_work_2_e, if_pos h', if_pos hn, if_neg (by omega), if_neg (by omega), if_neg (by omega), if_pos e, e1]
  rfl
theorem w2_5 (h : σ 8 32 = 68) (hn : 0 ≤ n ∧ n < 4200) (hk : 0 ≤ k ∧ k < 16000) (e : σ 70 n = 5) (h16 : 0 ≤ σ 8 16 ∧ σ 8 16 < 164000) : fr_work_2 (d + 1) σ n k = some (cPt (gW σ 13 k (σ 76 n)) 1 0 k, 0) := by
  have h' : 0 ≤ σ 8 32 := by omega
  rw [fr_work_2_e, if_pos h', if_pos hn, if_neg (by omega), if_neg (by omega), if_neg (by omega), if_neg (by omega), if_pos e, if_pos h', if_pos hn, if_pos hk, fr_put_s (by rw [gW_c (by decide)]; exact h16)]
  rfl
theorem w2_6 (h : σ 8 32 = 68) (hn : 0 ≤ n ∧ n < 4200) (hk : 0 ≤ k ∧ k < 16000) (e : σ 70 n = 6) (e1 : fr_work d (gW σ 13 k (σ 76 n)) (σ 74 n) = some (S1, 0)) (h16 : 0 ≤ S1 8 16 ∧ S1 8 16 < 164000) : fr_work_2 (d + 1) σ n k = some (cPt S1 2 0 k, 0) := by
  have h' : 0 ≤ σ 8 32 := by omega
  rw [fr_work_2_e, if_pos h', if_pos hn, if_neg (by omega), if_neg (by omega), if_neg (by omega), if_neg (by omega), if_neg (by omega), if_pos e, if_pos h', if_pos hn, if_pos hk, if_pos h', if_pos hn, e1]
  simp only [Option.bind_some]
  rw [fr_put_s h16]
  rfl
theorem w2_7 {s : Int} (h : σ 8 32 = 68) (h3 : 0 ≤ σ 8 33) (hn : 0 ≤ n ∧ n < 4200) (e : σ 70 n = 7) (e1 : fr_function σ (σ 8 33) (w32 ((σ 8 34) + (σ 76 n))) (σ 77 n) = some (S1, s)) (e2 : fr_constant S1 k 5 s = some (S2, 0)) : fr_work_2 (d + 1) σ n k = some (S2, 0) := by
  have h' : 0 ≤ σ 8 32 := by omega
  rw [fr_work_2_e, if_pos h', if_pos hn, if_neg (by omega), if_neg (by omega), if_neg (by omega), if_neg (by omega), if_neg (by omega), if_neg (by omega), if_pos e, if_pos h3, if_pos h', if_pos hn, if_pos h', if_pos hn, e1]
  simp only [Option.bind_some]
  rw [e2]
  rfl
theorem w2_8 (h : σ 8 32 = 68) (hn : 0 ≤ n ∧ n < 4200) (e : 8 ≤ σ 70 n ∧ σ 70 n ≤ 17) (e1 : fr_work d σ (σ 72 n) = some (S1, 0)) (h1 : S1 8 32 = 68) (e2 : fr_work d S1 (S1 73 n) = some (S2, 0)) (h16 : 0 ≤ S2 8 16 ∧ S2 8 16 < 164000) : fr_work_2 (d + 1) σ n k = some (cPt S2 3 0 k, 0) := by
  have h' : 0 ≤ σ 8 32 := by omega
  rw [fr_work_2_e, if_pos h', if_pos hn, if_neg (by omega), if_neg (by omega), if_neg (by omega), if_neg (by omega), if_neg (by omega), if_neg (by omega), if_neg (by omega), if_neg (by omega), if_neg (by omega), if_neg (by omega), if_neg (by omega), if_neg (by omega), if_neg (by omega), if_pos h', if_pos hn, e1]
  simp only [Option.bind_some]
  rw [if_pos (by omega), if_pos hn, e2]
  simp only [Option.bind_some]
  rw [fr_put_s h16]
  rfl
theorem w2_18 (h : σ 8 32 = 68) (hn : 0 ≤ n ∧ n < 4200) (e : σ 70 n = 18 ∨ σ 70 n = 19) (e1 : fr_work d σ (σ 72 n) = some (S1, 0)) (h16 : 0 ≤ S1 8 16 ∧ S1 8 16 < 164000) (h1 : S1 8 32 = 68) (e2 : fr_work d (cPt S1 4 0 k) (S1 73 n) = some (S2, 0)) (h16' : 0 ≤ S2 8 16 ∧ S2 8 16 < 164000) : fr_work_2 (d + 1) σ n k = some (gW (cPt S2 5 0 k) 21 (S1 8 16) (S2 8 16 + 1), 0) := by
  have h' : 0 ≤ σ 8 32 := by omega
  have c1 : cPt S1 4 0 k 8 32 = S1 8 32 := cPt_o (by omega) (Or.inl (by decide))
  have c2 : cPt S1 4 0 k 73 n = S1 73 n := cPt_o (by omega) (Or.inl (by decide))
  have c3 : cPt S2 5 0 k 8 16 = S2 8 16 + 1 := cPt_n.1
  have key : (fr_work d σ (σ 72 n)).bind (fun p10 => (fr_put p10.1 4 0 k).bind fun p11 => if 0 ≤ p11.1 8 32 then (if 0 ≤ n ∧ n < 4200 then ((fr_work d p11.1 (p11.1 73 n)).bind fun p12 => (fr_put p12.1 5 0 k).bind fun p13 => if 0 ≤ p11.2 ∧ p11.2 < 164000 then (some (gW p13.1 21 p11.2 (p13.1 8 16), (0 : Int))) else none) else none) else none) = some (gW (cPt S2 5 0 k) 21 (S1 8 16) (S2 8 16 + 1), 0) := by
    rw [e1]
    simp only [Option.bind_some]
    rw [fr_put_s h16]
    simp only [Option.bind_some]
    rw [c1, if_pos (by omega), if_pos hn, c2, e2]
    simp only [Option.bind_some]
    rw [fr_put_s h16']
    simp only [Option.bind_some]
    rw [if_pos h16, c3]
  rw [fr_work_2_e, if_pos h', if_pos hn, if_neg (by omega), if_neg (by omega), if_neg (by omega), if_neg (by omega), if_neg (by omega), if_neg (by omega), if_neg (by omega)]
  by_cases z : σ 70 n = 18
  · rw [if_pos z, if_pos h', if_pos hn]
    exact key
  · rw [if_neg z, if_pos (by omega), if_pos h', if_pos hn]
    exact key
theorem w2_20 (h : σ 8 32 = 68) (hn : 0 ≤ n ∧ n < 4200) (e : σ 70 n = 20) (e1 : fr_work d σ (σ 72 n) = some (S1, 0)) (h16 : 0 ≤ S1 8 16 ∧ S1 8 16 < 164000) : fr_work_2 (d + 1) σ n k = some (cPt S1 6 0 k, 0) := by
  have h' : 0 ≤ σ 8 32 := by omega
  rw [fr_work_2_e, if_pos h', if_pos hn, if_neg (by omega), if_neg (by omega), if_neg (by omega), if_neg (by omega), if_neg (by omega), if_neg (by omega), if_neg (by omega), if_neg (by omega), if_neg (by omega), if_pos e, if_pos h', if_pos hn, e1]
  simp only [Option.bind_some]
  rw [fr_put_s h16]
  rfl
theorem w2_21 (h : σ 8 32 = 68) (hn : 0 ≤ n ∧ n < 4200) (e : σ 70 n = 21 ∨ σ 70 n = 22) (e1 : fr_property d σ k n = some (S1, 0)) : fr_work_2 (d + 1) σ n k = some (S1, 0) := by
  have h' : 0 ≤ σ 8 32 := by omega
  rw [fr_work_2_e, if_pos h', if_pos hn, if_neg (by omega), if_neg (by omega), if_neg (by omega), if_neg (by omega), if_neg (by omega), if_neg (by omega), if_neg (by omega), if_neg (by omega), if_neg (by omega), if_neg (by omega)]
  by_cases z : σ 70 n = 21
  · rw [if_pos z, e1]
    rfl
  · rw [if_neg z, if_pos (by omega), e1]
    rfl
theorem w2_23 (h : σ 8 32 = 68) (hn : 0 ≤ n ∧ n < 4200) (hk : 0 ≤ k ∧ k < 16000) (e : σ 70 n = 23) (e1 : fr_work d σ (σ 72 n) = some (S1, 0)) (h1 : S1 8 32 = 68) : fr_work_2 (d + 1) σ n k = fr_work_2_b443 d (gW S1 14 k (S1 76 n)) k (S1 73 n) := by
  have h' : 0 ≤ σ 8 32 := by omega
  rw [fr_work_2_e, if_pos h', if_pos hn, if_neg (by omega), if_neg (by omega), if_neg (by omega), if_neg (by omega), if_neg (by omega), if_neg (by omega), if_neg (by omega), if_neg (by omega), if_neg (by omega), if_neg (by omega), if_neg (by omega), if_neg (by omega), if_pos e, if_pos h', if_pos hn, e1]
  simp only [Option.bind_some]
  rw [if_pos (by omega), if_pos hn, if_pos hk, if_pos (by omega), if_pos hn]
/-- the end of a property -/
theorem prop_end (h : σ 8 32 = 68) (hn : 0 ≤ n ∧ n < 4200) (e : σ 70 n = 21 ∨ σ 70 n = 22) (alt : (σ 70 n = 21 ∧ S1 = σ) ∨ (σ 70 n = 22 ∧ fr_work d σ (σ 74 n) = some (S1, 0) ∧ S1 8 32 = 68 ∧ S1 70 n = σ 70 n)) (h16 : 0 ≤ S1 8 16 ∧ S1 8 16 < 164000) : fr_property_b96 d σ k n = some (cPt S1 (if σ 70 n = 22 then 8 else 7) 0 k, 0) := by
  have h' : 0 ≤ σ 8 32 := by omega
  rw [fr_property_b96_e, if_pos h', if_pos hn]
  rcases alt with ⟨z, rfl⟩ | ⟨z, e1, h1, e70⟩
  · rw [if_neg (by omega), if_neg (by omega), fr_property_b123_e, if_pos h', if_pos hn, if_neg (by omega), fr_property_b145_e, fr_put_s h16]
    rfl
  · rw [if_pos z, if_pos z, if_pos h', if_pos hn, e1]
    simp only [Option.bind_some]
    rw [fr_property_b123_e, if_pos (by omega), if_pos hn, if_pos (by omega), fr_property_b145_e, fr_put_s h16]
    rfl
theorem prop_1 (h : σ 8 32 = 68) (hn : 0 ≤ n ∧ n < 4200) (e1 : fr_work d σ (σ 72 n) = some (S1, 0)) (h1 : S1 8 32 = 68) (z : 0 ≤ S1 73 n) (e2 : fr_work d S1 (S1 73 n) = some (S2, 0)) : fr_property (d + 1) σ k n = fr_property_b96 d S2 k n := by
  have h' : 0 ≤ σ 8 32 := by omega
  rw [fr_property_e, if_pos h', if_pos hn, e1]
  simp only [Option.bind_some]
  rw [if_pos (by omega), if_pos hn, if_neg (by omega), if_pos (by omega), if_pos hn, e2]
  rfl
theorem prop_2 {s : Int} (h : σ 8 32 = 68) (hn : 0 ≤ n ∧ n < 4200) (hk : 0 ≤ k ∧ k < 16000) (e1 : fr_work d σ (σ 72 n) = some (S1, 0)) (h1 : S1 8 32 = 68) (h3 : 0 ≤ S1 8 33) (z : S1 73 n < 0) (e2 : hp_string (gW (gW S1 14 k 1) 16 k 2) (S1 8 33) (w32 ((S1 8 34) + (S1 76 n))) (S1 77 n) = some (S2, s)) : fr_property (d + 1) σ k n = fr_property_b96 d (gW S2 17 k s) k n := by
  have h' : 0 ≤ σ 8 32 := by omega
  have h1' : 0 ≤ S1 8 32 := by omega
  rw [fr_property_e, if_pos h', if_pos hn, e1]
  simp only [Option.bind_some]
  rw [if_pos h1', if_pos hn, if_pos z, if_pos hk, if_pos hk, if_pos h3, if_pos h1', if_pos hn, if_pos h1', if_pos hn, e2]
  simp only [Option.bind_some]
  rw [if_pos hk]
end W2

/-! a run with one activation -/
section ONE
variable {S T : gM} {pT hT : Int → Int}
theorem RQ.one (R1 : rPr S T ∧ rNo S T ∧ rRm S T ∧ rBy S T) (ht : rTo S T) (m1 : S 87 19 = 1) (m2 : S 87 21 = 0) (m3 : T 119 121 = 1) (row : aR1 S T 0) (c0 : 0 ≤ T 119 123) (pc : pcT S 0 (S 87 22) (pT 0)) (cc : T 119 123 + ccN S 1 ≤ 2146000000) (lo : rLo S T) (ob : rOb S T) (ct : rCt S T) (fa : rFa S) : RQ S T pT hT := by
  refine ⟨R1, ⟨R1.1.1.2.2.2.2.2.2.2.1, ⟨⟨by omega, by omega, by omega⟩, c0, fun k k0 k1 => ?_⟩, R1.1.1.2.2.2.2.2.2.2.2.2.2.2.1.2.1, fun k k0 k1 => ?_, ht, ⟨by omega, by omega⟩, ?_⟩, ⟨lo, ob⟩, fun k k0 k1 => by omega, ct, fa⟩
  · have e : k = 0 := by omega
    rw [e]; exact row
  · have e : k = 0 := by omega
    unfold pcA
    rw [e, m2, if_pos rfl]
    exact pc
  · rw [m1]; exact cc
end ONE

/-! the component's code of a tree -/
/-- an instruction: its sign, where it leads, whose it is -/
def cI (σ : gM) (p o t n : Int) : Prop := σ 20 p = o ∧ σ 21 p = t ∧ σ 22 p = n
/-- the code of a tree from P to E; N gives the nodes' numbers; mode 0 what is worked out, 1 things given, 2 statements, 3 one statement; br and co say where break and continue lead -/
def CT (σ : gM) (N : Int → Int) (br co : Int) : Nat → Nat → Int → Int → Int → Prop
  | 0, _, _, _, _ => False
  | d + 1, 0, n, P, E => P < E ∧
      (((σ 70 n = 1 ∨ σ 70 n = 2 ∨ σ 70 n = 3 ∨ σ 70 n = 4 ∨ σ 70 n = 7) ∧ E = P + 1 ∧ cI σ P 0 0 (N n)) ∨
       (σ 70 n = 5 ∧ E = P + 1 ∧ cI σ P 1 0 (N n)) ∨
       (σ 70 n = 6 ∧ CT σ N br co d 0 (σ 74 n) P (E - 1) ∧ cI σ (E - 1) 2 0 (N n)) ∨
       ((8 ≤ σ 70 n ∧ σ 70 n ≤ 17) ∧ (∃ M, CT σ N br co d 0 (σ 72 n) P M ∧ CT σ N br co d 0 (σ 73 n) M (E - 1)) ∧ cI σ (E - 1) 3 0 (N n)) ∨
       ((σ 70 n = 18 ∨ σ 70 n = 19) ∧ (∃ M, CT σ N br co d 0 (σ 72 n) P M ∧ cI σ M 4 E (N n) ∧ CT σ N br co d 0 (σ 73 n) (M + 1) (E - 1)) ∧ cI σ (E - 1) 5 0 (N n)) ∨
       (σ 70 n = 20 ∧ CT σ N br co d 0 (σ 72 n) P (E - 1) ∧ cI σ (E - 1) 6 0 (N n)) ∨
       ((σ 70 n = 21 ∨ σ 70 n = 22) ∧ (∃ M M', CT σ N br co d 0 (σ 72 n) P M ∧ ((σ 73 n < 0 ∧ M' = M) ∨ (0 ≤ σ 73 n ∧ CT σ N br co d 0 (σ 73 n) M M')) ∧ ((σ 70 n = 21 ∧ E = M' + 1) ∨ (σ 70 n = 22 ∧ CT σ N br co d 0 (σ 74 n) M' (E - 1)))) ∧ cI σ (E - 1) (if σ 70 n = 22 then 8 else 7) 0 (N n)) ∨
       (σ 70 n = 23 ∧ (∃ M, CT σ N br co d 0 (σ 72 n) P M ∧ CT σ N br co d 1 (σ 73 n) M (E - 1)) ∧ cI σ (E - 1) 9 0 (N n)))
  | d + 1, 1, n, P, E => (n < 0 ∧ E = P) ∨ (0 ≤ n ∧ ∃ M, CT σ N br co d 0 n P M ∧ CT σ N br co d 1 (σ 75 n) M E)
  | d + 1, 2, n, P, E => (n < 0 ∧ E = P) ∨ (0 ≤ n ∧ ∃ M, CT σ N br co d 3 n P M ∧ CT σ N br co d 2 (σ 75 n) M E)
  | d + 1, _ + 3, n, P, E => P + 1 < E ∧ cI σ P 10 0 (if σ 70 n = 30 then N (σ 72 n) else N n) ∧
      ((σ 70 n = 24 ∧ ∃ M M', CT σ N br co d 0 (σ 72 n) (P + 1) M ∧ cI σ M 11 (M' + 1) (N n) ∧ CT σ N br co d 2 (σ 73 n) (M + 1) M' ∧ cI σ M' 14 E (-1) ∧ CT σ N br co d 2 (σ 74 n) (M' + 1) E) ∨
       (σ 70 n = 25 ∧ ∃ M, CT σ N br co d 0 (σ 72 n) (P + 1) M ∧ cI σ M 12 E (N n) ∧ CT σ N E (E - 1) d 2 (σ 73 n) (M + 1) (E - 1) ∧ cI σ (E - 1) 13 (P + 1) (N n)) ∨
       (σ 70 n = 26 ∧ ((σ 72 n < 0 ∧ E = P + 3 ∧ cI σ (P + 1) 17 0 (-1)) ∨ (0 ≤ σ 72 n ∧ CT σ N br co d 0 (σ 72 n) (P + 1) (E - 1))) ∧ cI σ (E - 1) 16 0 (N n)) ∨
       (σ 70 n = 27 ∧ E = P + 2 ∧ cI σ (P + 1) 14 br (-1)) ∨
       (σ 70 n = 28 ∧ E = P + 2 ∧ cI σ (P + 1) 14 co (-1)) ∨
       (σ 70 n = 30 ∧ CT σ N br co d 0 (σ 72 n) (P + 1) (E - 1) ∧ cI σ (E - 1) 15 0 (-1)))

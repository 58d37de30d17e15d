set_option maxRecDepth 100000
/-! ===== car look cost person sums: class and reference ===== -/
section P07
variable {v w : Nat → Int32} {n nC f N : Nat}
theorem cr_law {x1 x2 : Int32} (hG : GI w n f nC) (h : Rl n nC v w) : crQ v n x1 x2 = crQ w n x1 x2 := by
  obtain ⟨⟨g1, g2, g3⟩, e0, e1, -⟩ := hG
  unfold crQ
  rw [h.g1 (i := 1) (by omega), h.g1 (i := 0) (by omega), e0, e1]
  by_cases h1 : nI 0 ≤ x1 ∧ x1 ≤ nI nC - nI 1
  · rw [if_pos h1, if_pos h1]
    obtain ⟨c, hc, rfl⟩ := inC (by omega) h1
    rw [nI_clamp (by omega)]
    by_cases h2 : nI 100 ≤ x2 ∧ x2 ≤ nI 99 + nI f
    · rw [if_pos h2, if_pos h2]
      rw [nI_add] at h2
      obtain ⟨k, k1, k2, rfl⟩ := nI_between (by omega) h2 (by decide)
      rw [nI_clamp (by omega), h.g1 (i := 100 + 80 * c + (k - 100)) (by omega)]
    · rw [if_neg h2, if_neg h2]
      by_cases h3 : inN x2 12
      · rw [if_pos h3, if_pos h3]
        have hk : x2.toNatClampNeg < 12 := by
          have := h3.2
          unfold Int32.toNatClampNeg
          omega
        generalize x2.toNatClampNeg = k at hk
        have e : ∀ j, j < 12 → v (10 + 20 * c + j) = w (10 + 20 * c + j) := fun j hj => h.c1 hc (by omega)
        match k, hk with
        | 0, _ | 1, _ | 2, _ | 3, _ | 6, _ | 7, _ | 8, _ | 9, _ | 10, _ | 11, _ => exact e _ (by decide)
        | 4, _ => exact congrArg nI (h.cr1 2 (nI c))
        | 5, _ => exact congrArg nI (h.cr1 1 (nI c))
      · rw [if_neg h3, if_neg h3]
  · rw [if_neg h1, if_neg h1]
theorem lk_law {x : Int32} (hG : GI w n f nC) (h : Rl n nC v w) : lkQ v n x = lkQ w n x := by
  obtain ⟨⟨g1, g2, g3⟩, e0, e1, -⟩ := hG
  unfold lkQ
  rw [h.g1 (i := 0) (by omega), h.g1 (i := 5) (by omega), e0, h.cs1 1, h.cs1 2]
  by_cases h1 : nI 0 ≤ x ∧ x ≤ nI 4
  · rw [if_pos h1, if_pos h1]
    obtain ⟨k, k1, k2, rfl⟩ := nI_between (by omega) h1 (by decide)
    rw [nI_clamp (by omega), h.g1 (by omega)]
  · rw [if_neg h1, if_neg h1]
    by_cases h2 : nI 10 ≤ x ∧ x ≤ nI 12
    · rw [if_pos h2, if_pos h2]
      obtain ⟨k, k1, k2, rfl⟩ := nI_between (by omega) h2 (by decide)
      rw [nI_clamp (by omega), h.g1 (i := 1300 + k - 10) (by omega)]
    · rw [if_neg h2, if_neg h2]
      by_cases h3 : nI 100 ≤ x ∧ x ≤ nI 99 + nI f
      · rw [if_pos h3, if_pos h3]
        rw [nI_add] at h3
        obtain ⟨k, k1, k2, rfl⟩ := nI_between (by omega) h3 (by decide)
        rw [nI_clamp (by omega), h.g1 (i := 740 + (k - 100)) (by omega)]
      · rw [if_neg h3, if_neg h3]
theorem co_law {x1 x2 x3 : Int32} (hG : GI w n f nC) (h : Rl n nC v w) : coQ v n x1 x2 x3 = coQ w n x1 x2 x3 := by
  obtain ⟨⟨g1, g2, g3⟩, e0, e1, e2, -⟩ := hG
  unfold coQ
  rw [h.g1 (i := 1) (by omega), h.g1 (i := 2) (by omega), e1, e2]
  by_cases h1 : nI 0 ≤ x1 ∧ x1 ≤ nI n - nI 1
  · rw [if_pos h1, if_pos h1]
    obtain ⟨p, hp, rfl⟩ := inC (by omega) h1
    rw [nI_clamp (by omega), h.p1 hp (by decide)]
    by_cases h2 : w (820 + 8 * p + 3) = nI 1
    · rw [if_pos h2, if_pos h2]
      by_cases h3 : nI 0 ≤ x2 ∧ x2 ≤ nI nC - nI 1
      · rw [if_pos h3, if_pos h3]
        obtain ⟨c, hc, rfl⟩ := inC (by omega) h3
        rw [nI_clamp (by omega), nlW_Rl h, h.tl hp hc]
      · rw [if_neg h3, if_neg h3]
    · rw [if_neg h2, if_neg h2]
  · rw [if_neg h1, if_neg h1]
theorem pn_law {x1 x2 : Int32} (hG : GI w n f nC) (h : Rl n nC v w) (hO : OI w n N) (hN : N < 2 ^ 30) : pnC v x1 x2 = prQ w x1 x2 := by
  obtain ⟨⟨g1, g2, g3⟩, e0, e1, e2, -⟩ := hG
  unfold pnC prQ
  rw [h.g1 (i := 2) (by omega), e2]
  by_cases h1 : nI 0 ≤ x1 ∧ x1 ≤ nI n - nI 1
  · rw [if_pos h1, if_pos h1]
    obtain ⟨p, hp, rfl⟩ := inC (by omega) h1
    rw [nI_clamp (by omega)]
    by_cases h2 : nI 0 ≤ x2 ∧ x2 ≤ nI 6
    · rw [if_pos h2, if_pos h2]
      obtain ⟨k, k1, k2, rfl⟩ := nI_between (by omega) h2 (by decide)
      rw [nI_clamp (by omega)]
      by_cases h3 : k < 5
      · rw [if_pos h3, if_pos h3, h.p1 hp h3]
      · rw [if_neg h3, if_neg h3]
        obtain ⟨a, st, s1, s2, s3, s4, s5, s6⟩ := hO.2 p hp
        rw [h.p1 hp (show 3 < 5 by decide), h.p1 hp (show 0 < 5 by decide), s2.1]
        by_cases h4 : k = 5
        · rw [if_pos h4, if_pos h4]
          by_cases c : st < 2
          · rw [if_pos (nI_lt c (by omega)), if_pos (s4 c)]
          · obtain ⟨y, y1, y2, y3, -⟩ := s6 (by omega)
            rw [if_neg (nI_nlt (by omega) (by omega)), if_neg (by rw [y1]; exact nI_nm2 (by omega)), (h.2.2.2 p hp).1 (by rw [s2.1]; rcases (show st = 2 ∨ st = 3 by omega) with z | z; exact Or.inl (by rw [z]); exact Or.inr (by rw [z]))]
        · rw [if_neg h4, if_neg h4]
          by_cases c : st = 3
          · subst c
            obtain ⟨y, y1, y2, y3, y4⟩ := s6 (by omega)
            obtain ⟨z, z1, z2, z3⟩ := y4 rfl
            rw [if_pos rfl, if_neg (by rw [z1]; exact nI_nm2 (by omega)), (h.2.2.2 p hp).1 (Or.inr s2.1), (h.2.2.2 p hp).2 s2.1]
          · rw [if_neg (fun z => c ((nI_eq (by omega) (by omega)).mp z)), if_pos (s5 (by omega))]
    · rw [if_neg h2, if_neg h2]
  · rw [if_neg h1, if_neg h1]
theorem pr_5 (hG : GI w n f nC) {i : Nat} (hi : i < n) : prQ w (nI i) (nI 5) = (if w (820 + 8 * i + 5) = -1 then -1 else w (820 + 8 * i + 5) - w (820 + 8 * i + 0)) ∧ prQ w (nI i) (nI 6) = (if w (820 + 8 * i + 6) = -1 then -1 else w (820 + 8 * i + 6) - w (820 + 8 * i + 5)) := by
  obtain ⟨⟨g1, g2, g3⟩, e0, e1, e2, -⟩ := hG
  have hin : nI 0 ≤ nI i ∧ nI i ≤ w 2 - nI 1 := by rw [e2, pk_sub (by omega)]; exact ⟨nI_le (by omega) (by omega), nI_le (show i ≤ n - 1 by omega) (by omega)⟩
  unfold prQ
  constructor
  · rw [if_pos hin, if_pos ⟨by decide, by decide⟩, nI_clamp (n := i) (by omega), nI_clamp (n := 5) (by omega), if_neg (by omega), if_pos rfl]
  · rw [if_pos hin, if_pos ⟨by decide, by decide⟩, nI_clamp (n := i) (by omega), nI_clamp (n := 6) (by omega), if_neg (by omega), if_neg (by omega)]
theorem su_L (hG : GI w n f nC) (h : Rl n nC v w) (hO : OI w n N) (hN : N < 2 ^ 30) : ∀ (k i : Nat) (A : Nat → Int32), n < i + k → i ≤ n → A 3 = nI (cnt (stp w 3) i) → suL v n k i A 0 = (smL w (nI 5) n k i (A 0) (A 2)).1 ∧ suL v n k i A 2 = (smL w (nI 5) n k i (A 0) (A 2)).2 ∧ (∀ m, suL v n k i A 1 = (smL w (nI 6) n k i (A 1) m).1) ∧ suL v n k i A 3 = nI (cnt (stp w 3) n)
  | 0, i, A, hk, hi, h3 => by omega
  | k + 1, i, A, hk, hi, h3 => by
    rw [suL, smL]
    by_cases e : i < n
    · obtain ⟨p5, p6⟩ := pr_5 hG e
      obtain ⟨a, st, s1, s2, s3, s4, s5, s6⟩ := hO.2 i e
      have hs := h.p1 e (show 3 < 5 by decide)
      have ih := su_L hG h hO hN k (i + 1)
      have esp : stp w 3 i = decide (nI st = nI 3) := by unfold stp; rw [s2.1]
      rw [if_pos e, if_pos e, hs, s2.1, p5]
      by_cases c : st < 2
      · have c3 : cnt (stp w 3) (i + 1) = cnt (stp w 3) i := cnt_f (by rw [esp]; exact decide_eq_false (fun z => by have := (nI_eq (by omega) (by omega)).mp z; omega))
        obtain ⟨a1, a2, a3, a4⟩ := ih A (by omega) (by omega) (by rw [c3]; exact h3)
        rw [if_pos (nI_lt c (by omega)), if_pos (s4 c), if_pos rfl]
        refine ⟨a1, a2, fun m => ?_, a4⟩
        rw [smL, if_pos e, p6, if_pos (s5 (by omega)), if_pos rfl]
        exact a3 m
      · obtain ⟨y, y1, y2, y3, y4⟩ := s6 (by omega)
        have n5 : ¬ w (820 + 8 * i + 5) = -1 := by rw [y1]; exact nI_nm2 (by omega)
        have e5 : v (820 + 8 * i + 5) = w (820 + 8 * i + 5) := (h.2.2.2 i e).1 (by rw [s2.1]; rcases (show st = 2 ∨ st = 3 by omega) with z | z; exact Or.inl (by rw [z]); exact Or.inr (by rw [z]))
        have nd : ¬ w (820 + 8 * i + 5) - w (820 + 8 * i + 0) = -1 := by rw [y1, s1.1, pk_sub y2]; exact nI_nm2 (by omega)
        rw [if_neg (nI_nlt (by omega) (by omega)), if_neg n5, if_neg nd, e5, h.p1 e (show 0 < 5 by decide)]
        by_cases c3 : st = 3
        · subst c3
          obtain ⟨z, z1, z2, z3⟩ := y4 rfl
          have n6 : ¬ w (820 + 8 * i + 6) = -1 := by rw [z1]; exact nI_nm2 (by omega)
          have nd6 : ¬ w (820 + 8 * i + 6) - w (820 + 8 * i + 5) = -1 := by rw [y1, z1, pk_sub z2]; exact nI_nm2 (by omega)
          have e6 : v (820 + 8 * i + 6) = w (820 + 8 * i + 6) := (h.2.2.2 i e).2 s2.1
          rw [if_pos rfl, e6]
          have c4 : cnt (stp w 3) (i + 1) = cnt (stp w 3) i + 1 := cnt_t (by rw [esp]; exact decide_eq_true rfl)
          obtain ⟨a1, a2, a3, a4⟩ := ih (up (up (up (up A 0 (A 0 + (w (820 + 8 * i + 5) - w (820 + 8 * i + 0)))) 2 (if A 2 < w (820 + 8 * i + 5) - w (820 + 8 * i + 0) then w (820 + 8 * i + 5) - w (820 + 8 * i + 0) else A 2)) 1 (A 1 + (w (820 + 8 * i + 6) - w (820 + 8 * i + 5)))) 3 (A 3 + nI 1)) (by omega) (by omega) (by rw [c4, up_s, h3, nI_add])
          refine ⟨a1, a2, fun m => ?_, a4⟩
          rw [smL, if_pos e, p6, if_neg n6, if_neg nd6]
          exact a3 _
        · have c4 : cnt (stp w 3) (i + 1) = cnt (stp w 3) i := cnt_f (by rw [esp]; exact decide_eq_false (fun z => c3 ((nI_eq (by omega) (by omega)).mp z)))
          rw [if_neg (fun z => c3 ((nI_eq (by omega) (by omega)).mp z))]
          obtain ⟨a1, a2, a3, a4⟩ := ih (up (up A 0 (A 0 + (w (820 + 8 * i + 5) - w (820 + 8 * i + 0)))) 2 (if A 2 < w (820 + 8 * i + 5) - w (820 + 8 * i + 0) then w (820 + 8 * i + 5) - w (820 + 8 * i + 0) else A 2)) (by omega) (by omega) (by rw [c4]; exact h3)
          refine ⟨a1, a2, fun m => ?_, a4⟩
          rw [smL, if_pos e, p6, if_pos (s5 (by omega)), if_pos rfl]
          exact a3 m
    · obtain rfl : i = n := by omega
      rw [if_neg e, if_neg e]
      refine ⟨rfl, rfl, fun m => ?_, h3⟩
      rw [smL, if_neg e]
theorem su_law {x : Int32} {A : Nat → Int32} (hG : GI w n f nC) (h : Rl n nC v w) (hO : OI w n N) (hN : N < 2 ^ 30) (hA : ∀ k, k < 4 → A k = 0) : suQ v n x A = smQ w n x := by
  unfold suQ smQ
  by_cases h1 : nI 0 ≤ x ∧ x ≤ nI 3
  · rw [if_pos h1, if_pos h1]
    obtain ⟨k, k1, k2, rfl⟩ := nI_between (by omega) h1 (by decide)
    rw [nI_clamp (by omega)]
    obtain ⟨a1, a2, a3, a4⟩ := su_L hG h hO hN (n + 1) 0 A (by omega) (by omega) (hA 3 (by decide))
    rw [hA 0 (by decide), hA 2 (by decide)] at a1 a2
    rw [hA 1 (by decide)] at a3
    by_cases c : k = 3
    · subst c; rw [if_pos rfl]; exact a4
    · rw [if_neg c]
      by_cases c2 : k = 2
      · subst c2; rw [if_pos rfl]; exact a2
      · rw [if_neg c2]
        by_cases c1 : k = 1
        · subst c1; rw [if_pos rfl]; exact a3 _
        · obtain rfl : k = 0 := by omega
          rw [if_neg (by omega)]; exact a1
  · rw [if_neg h1, if_neg h1]
end P07

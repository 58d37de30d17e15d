set_option maxRecDepth 100000
/-! ===== better: class and reference ===== -/
section P06
variable {v w : Nat → Int32} {n nC f N : Nat}
theorem toI64_lt {a b : Int32} : a.toInt64 < b.toInt64 ↔ a < b := by
  rw [Int64.lt_iff_toInt_lt, Int32.lt_iff_toInt_lt, Int32.toInt_toInt64, Int32.toInt_toInt64]
theorem I64_max {a : Int32} : a.toInt64 < (9223372036854775807 : Int64) := by
  rw [Int64.lt_iff_toInt_lt, Int32.toInt_toInt64]
  have := Int32.toInt_lt a
  have e : (9223372036854775807 : Int64).toInt = 9223372036854775807 := by decide
  rw [e]; omega
theorem thP_OI {r : Nat} (hG : GI w n f nC) (hr : r < 3) (hO : OI w n N) (hN : N < 20001) : ∃ N', N' < 30000 ∧ OI (thP w n f nC r 3000).1 n N' := by
  obtain ⟨g1, g2, g3⟩ := hG.1
  obtain ⟨N', a1, a2, a3⟩ := OI_edW (tr := none) (pr := -1) (ps := 0) (rr := r) (nl := nlW w r) (wi := 3000) ⟨g1, g2, hr, g3⟩ (by omega) 3001 0 (up w 4 (nI r)) N (by omega) (hG.ws4 hr) (hO.upl (by omega) (by omega))
  exact ⟨N', by omega, a3⟩
theorem bt_law {T : tT} {ps : Nat} {x1 x2 : Int32} (hG : GI w n f nC) (h : Rl n nC v w) (hO : OI w n N) (hN : N < 20001) (h28 : T 0 28 = 0) (h29 : T 0 29 = -1) : btC v n f nC x1 x2 = btQ T ps n f nC x1 x2 w := by
  have hn := hG.1.1
  unfold btC btQ
  by_cases h1 : nI 0 ≤ x1 ∧ x1 ≤ nI 2
  · rw [if_pos h1, if_pos h1]
    by_cases h2 : nI 0 ≤ x2 ∧ x2 ≤ nI 2
    · rw [if_pos h2, if_pos h2, thQ_P hn h28 h29, thQ_P hn h28 h29]
      obtain ⟨a, a1, a2, rfl⟩ := nI_between (by decide) h1 (by decide)
      obtain ⟨b, b1, b2, rfl⟩ := nI_between (by decide) h2 (by decide)
      have key : ∀ r, r ≤ 2 → (obV n (thP v n f nC (nI r).toNatClampNeg 3000) = 9223372036854775807 ∧ thC w n f nC (nI r) (nI 0) = -1) ∨ ∃ y, y ≤ 30000 * 60 ∧ obV n (thP v n f nC (nI r).toNatClampNeg 3000) = (nI y).toInt64 ∧ thC w n f nC (nI r) (nI 0) = nI y := by
        intro r hr
        rw [nI_clamp (by omega), obV_Rl (thP_Rl hG h (r := r) (wi := 3000) (by omega)).1]
        obtain ⟨N', n1, n2⟩ := thP_OI (r := r) hG (by omega) hO hN
        have e : thC w n f nC (nI r) (nI 0) = thE id n 0 (thP w n f nC r 3000) := by
          unfold thC
          rw [if_pos ⟨nI_le (by omega) (by omega), nI_le hr (by decide)⟩, if_pos ⟨by decide, by decide⟩, nI_clamp (n := r) (by omega), nI_clamp (n := 0) (by omega)]
        rw [e]
        unfold thE obV
        by_cases c : cnt (stp (thP w n f nC r 3000).1 3) n = n
        · rw [if_pos c, if_pos c, if_pos rfl]
          obtain ⟨y, y1, y2⟩ := ovW_OI n2 n1 hn c (n + 1) 0 0 (by omega) (by omega)
          exact Or.inr ⟨y, y1, by rw [y2], y2⟩
        · rw [if_neg c, if_neg c]; exact Or.inl ⟨rfl, rfl⟩
      rcases key a a2 with ⟨p1, p2⟩ | ⟨y, y0, p1, p2⟩ <;> rcases key b b2 with ⟨q1, q2⟩ | ⟨z, z0, q1, q2⟩
      · rw [p1, p2, q1, q2, if_neg (Int64.lt_irrefl), if_neg (Int64.lt_irrefl), if_pos rfl]
        by_cases e : nI b < nI a
        · rw [if_pos e, if_neg (fun z => absurd ((nI_ltI (by omega) (by omega)).mp z) (by have := (nI_ltI (by omega) (by omega)).mp e; omega))]
        · rw [if_neg e]
          by_cases e2 : nI a < nI b
          · rw [if_pos e2]
          · rw [if_neg e2]
            have t1 := mt (nI_ltI (a := b) (b := a) (by omega) (by omega)).mpr e
            have t2 := mt (nI_ltI (a := a) (b := b) (by omega) (by omega)).mpr e2
            rw [show a = b by omega]
      · rw [p1, p2, q1, q2, if_neg (fun t => absurd (Int64.lt_trans t I64_max) Int64.lt_irrefl), if_pos I64_max, if_neg (fun t => nI_nm2 (by omega) t.symm), if_neg (nI_nm2 (by omega)), if_pos rfl]
      · rw [p1, p2, q1, q2, if_pos I64_max, if_neg (nI_nm2 (by omega)), if_pos rfl]
      · rw [p1, p2, q1, q2]
        by_cases e : y = z
        · subst e
          rw [if_neg (Int64.lt_irrefl), if_neg (Int64.lt_irrefl), if_pos rfl]
          by_cases e : nI b < nI a
          · rw [if_pos e, if_neg (fun z => absurd ((nI_ltI (by omega) (by omega)).mp z) (by have := (nI_ltI (by omega) (by omega)).mp e; omega))]
          · rw [if_neg e]
            by_cases e2 : nI a < nI b
            · rw [if_pos e2]
            · rw [if_neg e2]
              have t1 := mt (nI_ltI (a := b) (b := a) (by omega) (by omega)).mpr e
              have t2 := mt (nI_ltI (a := a) (b := b) (by omega) (by omega)).mpr e2
              rw [show a = b by omega]
        · rw [if_neg (fun t => e ((nI_eq (by omega) (by omega)).mp t)), if_neg (nI_nm2 (by omega)), if_neg (nI_nm2 (by omega))]
          by_cases c : y < z
          · rw [if_pos (toI64_lt.mpr (nI_lt c (by omega))), if_pos (nI_lt c (by omega))]
          · rw [if_neg (fun t => c ((nI_ltI (by omega) (by omega)).mp (toI64_lt.mp t))), if_pos (toI64_lt.mpr (nI_lt (show z < y by omega) (by omega))), if_neg (fun t => c ((nI_ltI (by omega) (by omega)).mp t))]
    · rw [if_neg h2, if_neg h2]
  · rw [if_neg h1, if_neg h1]
end P06

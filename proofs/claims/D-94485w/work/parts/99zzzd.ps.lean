set_option maxRecDepth 100000
/-! ===== thought and fun: class and reference ===== -/
section P04
variable {v w : Nat → Int32} {n nC f : Nat}
theorem giW_ps {ps qs c : Nat} (hn : n ≤ 60) : ∀ (k i : Nat) (w : Nat → Int32) (m r : Nat), giW (-1) ps c n k i w m r = giW (-1) qs c n k i w m r
  | 0, _, _, _, _ => rfl
  | k + 1, i, w, m, r => by
    rw [giW, giW]
    by_cases e : i < n
    · rw [if_pos e, if_pos e, if_neg (nI_nm (show i < 1000 by omega)), if_neg (nI_nm (show i < 1000 by omega)), giW_ps (ps := ps) (qs := qs) hn k, giW_ps (ps := ps) (qs := qs) hn k]
    · rw [if_neg e, if_neg e]
theorem csW_ps {ps qs c : Nat} (hn : n ≤ 60) : csW (-1) ps c n f w = csW (-1) qs c n f w := by
  have h : ∀ a n1 (w : Nat → Int32), lk2 (-1) ps c n a n1 w = lk2 (-1) qs c n a n1 w := fun a n1 w => by
    unfold lk2
    rw [giW_ps (qs := qs) hn]
  have h2 : ∀ a (w : Nat → Int32), lkW (-1) ps c n a f w = lkW (-1) qs c n a f w := fun a w => by
    unfold lkW lk1
    rw [h]
  unfold csW
  simp only [h2]
theorem s3W_ps {ps qs : Nat} (hn : n ≤ 60) : ∀ (k c : Nat) (w : Nat → Int32), s3W (-1) ps n f nC k c w = s3W (-1) qs n f nC k c w
  | 0, _, _ => rfl
  | k + 1, c, w => by rw [s3W, s3W, csW_ps (qs := qs) hn, s3W_ps hn k]
theorem secW_ps {tr : Option (Nat → Int32)} {ps qs rr nl : Nat} (hn : n ≤ 60) : secW tr (-1) ps n f rr nl nC = secW tr (-1) qs n f rr nl nC := by
  funext w
  unfold secW
  rw [s3W_ps (qs := qs) hn]
theorem sdW_0 {T : tT} {ps rr nl : Nat} (hn : n ≤ 60) (h28 : T 0 28 = 0) (h29 : T 0 29 = -1) : sdW T ps n f rr nl nC = secW none (-1) 0 n f rr nl nC := by
  funext w
  unfold sdW trO
  rw [if_pos h28, h29, secW_ps (qs := 0) hn]
theorem thQ_P {T : tT} {ps : Nat} {x1 x2 : Int32} (hn : n ≤ 60) (h28 : T 0 28 = 0) (h29 : T 0 29 = -1) : thQ T ps n f nC x1 x2 w = thC w n f nC x1 x2 := by
  unfold thQ thC
  by_cases h1 : nI 0 ≤ x1 ∧ x1 ≤ nI 2
  · rw [if_pos h1, if_pos h1]
    by_cases h2 : nI 0 ≤ x2 ∧ x2 ≤ nI 2
    · rw [if_pos h2, if_pos h2]
      obtain ⟨m, m1, m2, rfl⟩ := nI_between (by decide) h1 (by decide)
      rw [nI_clamp (by omega), sdW_0 hn h28 h29]
      rfl
    · rw [if_neg h2, if_neg h2]
  · rw [if_neg h1, if_neg h1]
theorem thC_Rl {x1 x2 : Int32} (hG : GI w n f nC) (h : Rl n nC v w) : thC v n f nC x1 x2 = thC w n f nC x1 x2 := by
  unfold thC
  by_cases h1 : nI 0 ≤ x1 ∧ x1 ≤ nI 2
  · rw [if_pos h1, if_pos h1]
    by_cases h2 : nI 0 ≤ x2 ∧ x2 ≤ nI 2
    · rw [if_pos h2, if_pos h2]
      obtain ⟨m, m1, m2, rfl⟩ := nI_between (by decide) h1 (by decide)
      rw [nI_clamp (by omega)]
      obtain ⟨a1, a2⟩ := thP_Rl hG h (r := m) (wi := 3000) (by omega)
      exact thE_Rl a1 a2
    · rw [if_neg h2, if_neg h2]
  · rw [if_neg h1, if_neg h1]
theorem th_law {T : tT} {ps : Nat} {x1 x2 : Int32} (hG : GI w n f nC) (h : Rl n nC v w) (h28 : T 0 28 = 0) (h29 : T 0 29 = -1) : thC v n f nC x1 x2 = thQ T ps n f nC x1 x2 w := (thC_Rl hG h).trans (thQ_P hG.1.1 h28 h29).symm
/-- fun -/
theorem up_self {i : Nat} {x : Int32} (h : w i = x) : up w i x = w := by
  funext k
  by_cases e : k = i
  · subst e; rw [up_s, h]
  · rw [up_n e]
theorem fn_law {T : tT} {ps r : Nat} {x1 x2 : Int32} (hG : GI w n f nC) (h : Rl n nC v w) (hr : r < 3) (h4 : w 4 = nI r) (h28 : T 0 28 = 0) (h29 : T 0 29 = -1) : fnC v n f nC r x1 x2 = fnQ T ps n f nC x1 x2 w := by
  have hn := hG.1.1
  unfold fnC fnQ
  rw [h.g1 (i := 2) (by omega), hG.2.1, hG.2.2.2.1]
  by_cases h1 : nI 0 ≤ x1 ∧ x1 ≤ nI n - nI 1
  · rw [if_pos h1, if_pos h1]
    obtain ⟨m, m1, rfl⟩ := lt_of_m1 (by omega) h1
    rw [nI_clamp (by omega), h.p1 m1 (show 3 < 5 by decide), h.p1 m1 (show 1 < 5 by decide), h.p1 m1 (show 2 < 5 by decide)]
    by_cases h2 : w (820 + 8 * m + 3) = nI 1
    · rw [if_pos h2, if_pos h2]
      by_cases h3 : nI 0 ≤ x2 ∧ x2 ≤ nI f - nI 1
      · rw [if_pos h3, if_pos h3]
        have hf := hG.1.2.1
        obtain ⟨fl, m3, rfl⟩ := lt_of_m1 (by omega) h3
        rw [nI_clamp (by omega)]
        by_cases h5 : nI fl = w (820 + 8 * m + 1)
        · rw [if_pos h5, if_pos h5]
        · rw [if_neg h5, if_neg h5]
          by_cases h6 : nI fl = w (820 + 8 * m + 2)
          · rw [if_pos h6, if_pos h6]
          · rw [if_neg h6, if_neg h6]
            have e4 : wN w 4 = r := by unfold wN; rw [h4, nI_clamp (by omega)]
            have et : trO T = none := by unfold trO; rw [if_pos h28]
            rw [e4, sdW_0 hn h28 h29, et]
            obtain ⟨a1, a2⟩ := thP_Rl hG h (r := r) (wi := 3000) hr
            obtain ⟨b1, b2⟩ := thK_Rl hG h (r := r) (wi := 3000) (ps := fl) (pr := nI m) hr (by omega)
            have eP : thP w n f nC r 3000 = edW (secW none (-1) 0 n f r (nlW w r) nC) n 3000 3001 0 w := by unfold thP; rw [up_self h4]
            have eK : thK w n f nC r 3000 (nI m) fl = edW (secW none (nI m) fl n f r (nlW w r) nC) n 3000 3001 0 w := by unfold thK; rw [up_self h4]
            rw [← eP, ← eK, a1.cs1 3, b1.cs1 3]
            by_cases c1 : cnt (stp (thP w n f nC r 3000).1 3) n = n
            · rw [if_pos c1]
              by_cases c2 : cnt (stp (thK w n f nC r 3000 (nI m) fl).1 3) n = n
              · rw [if_pos c2, if_pos ⟨c1, c2⟩, ovW_Rl a1 c1, ovW_Rl b1 c2]
              · rw [if_neg c2, if_neg (fun z => c2 z.2)]
            · rw [if_neg c1, if_neg (fun z => c1 z.1)]
      · rw [if_neg h3, if_neg h3]
    · rw [if_neg h2, if_neg h2]
  · rw [if_neg h1, if_neg h1]
end P04

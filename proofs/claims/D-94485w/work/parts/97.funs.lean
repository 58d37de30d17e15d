set_option maxRecDepth 100000
/-! floors for fun: rows and longs -/
theorem clr_fn {S : tT} {β i : Nat} {v : Nat → Int32} {x : Int32} (h : 100 ≤ i ∧ i < 820) : clr S β (up v i x) = clr S β v := by
  funext a j
  show (if _ then _ else _) = (if _ then _ else _)
  by_cases h1 : a = β ∧ (j = 2 ∨ j = 3 ∨ j = 4)
  · rw [if_pos h1, if_pos h1, up_n (by omega)]
  · rw [if_neg h1, if_neg h1]
    by_cases h2 : β + 3 ≤ a ∧ a < β + 63 ∧ j < 7
    · rw [if_pos h2, if_pos h2, up_n (by omega)]
    · rw [if_neg h2, if_neg h2]
      by_cases h3 : β + 63 ≤ a ∧ a < β + 67 ∧ j < 6
      · have hj7 : cmp j < 6 := by unfold cmp; split <;> (try split) <;> omega
        rw [if_pos h3, if_pos h3, up_n (by omega)]
      · rw [if_neg h3, if_neg h3]
theorem up_comm {w : Nat → Int32} {i j : Nat} {x y : Int32} (h : i ≠ j) : up (up w i x) j y = up (up w j y) i x := by
  funext k
  by_cases h1 : k = i
  · subst h1
    rw [up_n h, up_s, up_s]
  · by_cases h2 : k = j
    · subst h2
      rw [up_s, up_n h1, up_s]
    · rw [up_n h2, up_n h1, up_n h1, up_n h2]
def FBx (U : tU) (β f c a : Nat) (w : Nat → Int32) : Prop := ∀ c', c' < 4 → ∀ q, b2 (U (β + 63 + c') 6) (U (β + 63 + c') 7) q = true ↔ (q < f ∧ ¬ (c' = c ∧ q = a) ∧ w (420 + 80 * c' + q) = nI 1)
section TP97
variable {U U' : tU} {β f c a : Nat} {w w' : Nat → Int32}
theorem tnU_o {A p B j : Nat} (h : B ≠ A) : tnU U A 6 p B j = U B j := by
  unfold tnU
  split
  · exact tuL_n (fun e => h e.1)
  · exact tuL_n (fun e => h e.1)
theorem amU_o {A p B j : Nat} (h : B ≠ A) : amU U A 9 p B j = U B j := by
  unfold amU
  split
  · exact tuL_n (fun e => h e.1)
  · exact tuL_n (fun e => h e.1)
theorem UF_tn {p : Nat} (hc : c < 4) : UF U (tnU U (β + 63 + c) 6 p) β := fun b k h => tnU_o (by omega)
theorem FB_x0 (h : FB U β f w) (hb : ¬ b2 (U (β + 63 + c) 6) (U (β + 63 + c) 7) a = true) : FBx U β f c a w := by
  intro c' hc' q
  rw [h c' hc' q]
  constructor
  · rintro ⟨h1, h2⟩
    refine ⟨h1, ?_, h2⟩
    rintro ⟨rfl, rfl⟩
    exact hb ((h c' hc' q).mpr ⟨h1, h2⟩)
  · rintro ⟨h1, -, h2⟩
    exact ⟨h1, h2⟩
theorem FB_x1 (h : FB U β f w) (ha : a < 128) (hb : b2 (U (β + 63 + c) 6) (U (β + 63 + c) 7) a = true) : FBx (tnU U (β + 63 + c) 6 a) β f c a w := by
  intro c' hc' q
  by_cases e : c' = c
  · subst e
    have h1 := tnU_b (U := U) (a := β + 63 + c') (k := 6) (f := a) (i := q) ha
    have h1' : b2 (tnU U (β + 63 + c') 6 a (β + 63 + c') 6) (tnU U (β + 63 + c') 6 a (β + 63 + c') 7) q = (b2 (U (β + 63 + c') 6) (U (β + 63 + c') 7) q ^^ decide (q = a)) := h1
    rw [h1']
    by_cases hq : q = a
    · subst hq
      rw [hb, decide_eq_true rfl]
      exact ⟨fun z => absurd z (by decide), fun z => absurd ⟨rfl, rfl⟩ z.2.1⟩
    · rw [decide_eq_false hq, Bool.xor_false, h c' hc' q]
      exact ⟨fun z => ⟨z.1, fun y => hq y.2, z.2⟩, fun z => ⟨z.1, z.2.2⟩⟩
  · rw [tnU_o (by omega), tnU_o (by omega), h c' hc' q]
    exact ⟨fun z => ⟨z.1, fun y => e y.1, z.2⟩, fun z => ⟨z.1, z.2.2⟩⟩
theorem FBx_end (h : FBx U β f c a w) (e : ∀ c', c' < 4 → ∀ q, q < f → ¬ (c' = c ∧ q = a) → w' (420 + 80 * c' + q) = w (420 + 80 * c' + q)) (e2 : ¬ w' (420 + 80 * c + a) = nI 1) : FB U β f w' := by
  intro c' hc' q
  rw [h c' hc' q]
  constructor
  · rintro ⟨h1, h2, h3⟩
    exact ⟨h1, by rw [e c' hc' q h1 h2]; exact h3⟩
  · rintro ⟨h1, h3⟩
    have h2 : ¬ (c' = c ∧ q = a) := by
      rintro ⟨rfl, rfl⟩
      exact e2 h3
    exact ⟨h1, h2, by rw [← e c' hc' q h1 h2]; exact h3⟩
theorem FBx_fr (h : FBx U β f c a w) (e : ∀ c', c' < 4 → ∀ q, q < f → w' (420 + 80 * c' + q) = w (420 + 80 * c' + q)) : FBx U β f c a w' := by
  intro c' hc' q
  rw [h c' hc' q]
  exact ⟨fun z => ⟨z.1, z.2.1, by rw [e c' hc' q z.1]; exact z.2.2⟩, fun z => ⟨z.1, z.2.1, by rw [← e c' hc' q z.1]; exact z.2.2⟩⟩
theorem FBx_U (h : FBx U β f c a w) (e : ∀ c', c' < 4 → U' (β + 63 + c') 6 = U (β + 63 + c') 6 ∧ U' (β + 63 + c') 7 = U (β + 63 + c') 7) : FBx U' β f c a w := by
  intro c' hc' q
  rw [(e c' hc').1, (e c' hc').2]
  exact h c' hc' q
theorem FB_fr (h : FB U β f w) (e : ∀ c', c' < 4 → ∀ q, q < f → w' (420 + 80 * c' + q) = w (420 + 80 * c' + q)) : FB U β f w' := by
  intro c' hc' q
  rw [h c' hc' q]
  exact ⟨fun z => ⟨z.1, by rw [e c' hc' q z.1]; exact z.2⟩, fun z => ⟨z.1, by rw [← e c' hc' q z.1]; exact z.2⟩⟩
theorem FBx_has {p : Nat} (h : FBx U β f c a w) (hc : c < 4) (hb : b2 (U (β + 63 + c) 6) (U (β + 63 + c) 7) p = true) : FBx U β f c a (up w (420 + 80 * c + p) (nI 1)) := by
  have h1 := (h c hc p).mp hb
  have e : up w (420 + 80 * c + p) (nI 1) = w := by
    funext k
    by_cases hk : k = 420 + 80 * c + p
    · subst hk
      rw [up_s]
      exact h1.2.2.symm
    · exact up_n hk
  rw [e]
  exact h
theorem FBx_set {p : Nat} (h : FBx U β f c a w) (hf : f ≤ 80) (hp : p < f) (hpa : p ≠ a) (hb : ¬ b2 (U (β + 63 + c) 6) (U (β + 63 + c) 7) p = true) : FBx (tnU U (β + 63 + c) 6 p) β f c a (up w (420 + 80 * c + p) (nI 1)) := by
  intro c' hc' q
  by_cases e : c' = c
  · subst e
    have h1 := tnU_b (U := U) (a := β + 63 + c') (k := 6) (f := p) (i := q) (by omega)
    have h1' : b2 (tnU U (β + 63 + c') 6 p (β + 63 + c') 6) (tnU U (β + 63 + c') 6 p (β + 63 + c') 7) q = (b2 (U (β + 63 + c') 6) (U (β + 63 + c') 7) q ^^ decide (q = p)) := h1
    rw [h1']
    by_cases hq : q = p
    · subst hq
      rw [decide_eq_true rfl, up_s]
      have hb2 : b2 (U (β + 63 + c') 6) (U (β + 63 + c') 7) q = false := Bool.eq_false_iff.mpr hb
      rw [hb2]
      exact ⟨fun _ => ⟨hp, fun y => hpa y.2, rfl⟩, fun _ => rfl⟩
    · rw [decide_eq_false hq, Bool.xor_false, up_n (by omega)]
      exact h c' hc' q
  · rw [tnU_o (by omega), tnU_o (by omega)]
    rw [h c' hc' q]
    constructor
    · rintro ⟨h1, h2, h3⟩
      exact ⟨h1, h2, by rw [up_n (by omega)]; exact h3⟩
    · rintro ⟨h1, h2, h3⟩
      exact ⟨h1, h2, by rw [up_n (by omega)] at h3; exact h3⟩
theorem ftU_o {n B j : Nat} (h : B ≠ β) : ∀ (k i : Nat) (U : tU), ftU β w c n k i U B j = U B j := by
  intro k
  induction k with
  | zero => intro i U; rfl
  | succ k ih =>
    intro i U
    rw [ftU]
    by_cases hi : i < n
    · rw [if_pos hi, ih]
      cases tO w c i with
      | none => rfl
      | some p => exact amU_o h
    · rw [if_neg hi]
theorem ftU_b {n g : Nat} (hT : ∀ p, p < n → ∀ t, tO w c p = some t → t < 128) : ∀ (k i : Nat) (U : tU), i ≤ n → n < i + k → (b2 (ftU β w c n k i U β 9) (ftU β w c n k i U β 10) g = true ↔ (b2 (U β 9) (U β 10) g = true ∨ ∃ j, i ≤ j ∧ j < n ∧ tO w c j = some g)) := by
  intro k
  induction k with
  | zero => intro i U h1 h2; omega
  | succ k ih =>
    intro i U h1 h2
    rw [ftU]
    by_cases hi : i < n
    · rw [if_pos hi, ih (i + 1) _ (by omega) (by omega)]
      cases ht : tO w c i with
      | none =>
        show (b2 (U β 9) (U β 10) g = true ∨ _) ↔ _
        constructor
        · rintro (z | ⟨j, g1, g2, g3⟩)
          · exact Or.inl z
          · exact Or.inr ⟨j, by omega, g2, g3⟩
        · rintro (z | ⟨j, g1, g2, g3⟩)
          · exact Or.inl z
          · refine Or.inr ⟨j, ?_, g2, g3⟩
            rcases Nat.lt_or_ge i j with q | q
            · omega
            · obtain rfl : j = i := by omega
              rw [ht] at g3
              cases g3
      | some p =>
        have hb : b2 (amU U β 9 p β 9) (amU U β 9 p β 10) g = (b2 (U β 9) (U β 10) g || decide (g = p)) := amU_b (hT i hi p ht)
        show (b2 (amU U β 9 p β 9) (amU U β 9 p β 10) g = true ∨ _) ↔ _
        rw [hb, Bool.or_eq_true]
        constructor
        · rintro ((z | z) | ⟨j, g1, g2, g3⟩)
          · exact Or.inl z
          · have := of_decide_eq_true z
            subst this
            exact Or.inr ⟨i, Nat.le_refl i, hi, ht⟩
          · exact Or.inr ⟨j, by omega, g2, g3⟩
        · rintro (z | ⟨j, g1, g2, g3⟩)
          · exact Or.inl (Or.inl z)
          · rcases Nat.lt_or_ge i j with q | q
            · exact Or.inr ⟨j, by omega, g2, g3⟩
            · obtain rfl : j = i := by omega
              rw [ht] at g3
              cases g3
              exact Or.inl (Or.inr (decide_eq_true rfl))
    · rw [if_neg hi]
      constructor
      · exact fun z => Or.inl z
      · rintro (z | ⟨j, g1, g2, g3⟩)
        · exact z
        · omega
theorem ft_S {n : Nat} (hc : c < 4) (hf : f ≤ 80) (hT : ∀ p, p < n → ∀ t, tO w c p = some t → t < f) (h : FBx U β f c a w) : tgS w c n f (ftU β w c n (n + 1) 0 (ft0 β c U) β 9) (ftU β w c n (n + 1) 0 (ft0 β c U) β 10) a := by
  intro g
  rw [ftU_b (fun p hp t ht => by have := hT p hp t ht; omega) (n + 1) 0 _ (Nat.zero_le n) (by omega)]
  have e9 : ft0 β c U β 9 = U (β + 63 + c) 6 := by
    unfold ft0
    rw [tuL_n (by omega), tuL_s]
  have e10 : ft0 β c U β 10 = U (β + 63 + c) 7 := tuL_s
  rw [e9, e10, h c hc g]
  constructor
  · rintro (⟨h1, h2, h3⟩ | ⟨j, -, g2, g3⟩)
    · exact Or.inr ⟨h1, fun y => h2 ⟨rfl, y⟩, h3⟩
    · exact Or.inl ⟨j, g2, g3⟩
  · rintro (⟨j, g2, g3⟩ | ⟨h1, h2, h3⟩)
    · exact Or.inr ⟨j, Nat.zero_le j, g2, g3⟩
    · exact Or.inl ⟨h1, fun y => h2 y.2, h3⟩
theorem ft_U {n : Nat} : UF U (ftU β w c n (n + 1) 0 (ft0 β c U)) β := fun b k h => by
  rw [ftU_o (by omega)]
  unfold ft0
  rw [tuL_n (by omega), tuL_n (by omega)]
theorem ft_car {n : Nat} : ∀ c', c' < 4 → ∀ k, ftU β w c n (n + 1) 0 (ft0 β c U) (β + 63 + c') k = U (β + 63 + c') k := fun c' hc' k => by
  rw [ftU_o (by omega)]
  unfold ft0
  rw [tuL_n (by omega), tuL_n (by omega)]
theorem cn_nw {n : Nat} {x z : Int64} {fh : Int32} (hT : ∀ p, p < n → ∀ t, tO w c p = some t → t < f) (hS : tgS w c n f x z a) (haf : a < f) (ha : w (10 + 20 * c + 0) = nI a) : cnW w c a f x z fh = nwW w c fh (nrW w c a true f n) (nrW w c a false f n) := by
  unfold cnW nwW
  by_cases h : fh = -1
  · rw [if_pos h, if_pos h, cwL_nw hT hS haf]
    cases nrW w c a true f n with
    | none =>
      cases nrW w c a false f n with
      | none =>
        show hmW w c a = _
        unfold hmW
        by_cases h1 : w (10 + 20 * c + 5) = -1
        · rw [if_pos h1]
          simp only
          rw [if_pos h1]
        · rw [if_neg h1]
          simp only
          rw [if_neg h1, ha]
          unfold cmI
          by_cases h2 : w (10 + 20 * c + 5) = nI a
          · rw [if_pos h2, h2, if_neg (fun z => Int32.lt_irrefl z), if_pos rfl]
          · rw [if_neg h2]
            by_cases h3 : nI a < w (10 + 20 * c + 5)
            · rw [if_pos h3, if_neg (Int32.not_lt.mpr (Int32.le_of_lt h3)), if_neg h2]
            · rw [if_neg h3]
              have h4 : w (10 + 20 * c + 5) < nI a := by
                rcases Int32.lt_or_eq_of_le (Int32.not_lt.mp h3) with q | q
                · exact q
                · exact absurd q h2
              rw [if_pos h4, if_neg h2]
      | some y => rfl
    | some y =>
      cases nrW w c a false f n with
      | none => rfl
      | some y2 =>
        show orH (if y2 < y then _ else _) _ = if y2 < y then _ else _
        by_cases h3 : y2 < y
        · rw [if_pos h3, if_pos h3]; rfl
        · rw [if_neg h3, if_neg h3]; rfl
  · rw [if_neg h, if_neg h]
/-- who presses a floor for fun does not press his own -/
def JK (w : Nat → Int32) (pr : Int32) (ps n : Nat) : Prop := ∀ i, i < n → nI i = pr → ¬ w (820 + 8 * i + 1) = nI ps
theorem giW_fun {pr : Int32} {ps n : Nat} (hps : ps < 80) (ha : a < 80) : ∀ (k i : Nat) (w : Nat → Int32) (m r : Nat), JK w pr ps n → w (10 + 20 * c + 0) = nI a → c < 4 → (giW pr ps c n k i w m r).1 (420 + 80 * c + a) = w (420 + 80 * c + a) := by
  intro k
  induction k with
  | zero => intro i w m r _ _ _; rfl
  | succ k ih =>
    intro i w m r hj hfl hc
    rw [giW]
    by_cases h1 : i < n
    · rw [if_pos h1]
      by_cases h2 : nI r < w (10 + 20 * c + 6)
      · rw [if_pos h2]
        by_cases h3 : w (820 + 8 * i + 3) = nI 1 ∧ w (820 + 8 * i + 4) = nI c ∧ w (820 + 8 * i + 1) = w (10 + 20 * c + 0) ∧ wayW w i = w (10 + 20 * c + 1)
        · rw [if_pos h3]
          by_cases h4 : nI i = pr
          · rw [if_pos h4]
            have hne : a ≠ ps := by
              intro e
              subst e
              exact hj i h1 h4 (h3.2.2.1.trans hfl)
            rw [ih _ _ _ _ (fun j hj1 hj2 => by rw [up_n (by omega), up_n (by omega), up_n (by omega)]; exact hj j hj1 hj2) (by rw [up_n (by omega), up_n (by omega), up_n (by omega)]; exact hfl) hc, up_n (by omega), up_n (by omega), up_n (by omega)]
          · rw [if_neg h4, ih _ _ _ _ (fun j hj1 hj2 => by rw [up_n (by omega), up_n (by omega)]; exact hj j hj1 hj2) (by rw [up_n (by omega), up_n (by omega)]; exact hfl) hc, up_n (by omega), up_n (by omega)]
        · rw [if_neg h3]
          exact ih _ _ _ _ hj hfl hc
      · rw [if_neg h2]
    · rw [if_neg h1]
end TP97

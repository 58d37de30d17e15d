set_option maxRecDepth 100000
/-- places that no second writes -/
def Stc (n nC i : Nat) : Prop := i ≠ 3 ∧ (∀ c, c < nC → ∀ k, k < 4 → i ≠ 10 + 20 * c + k) ∧ (i < 420 ∨ 740 ≤ i) ∧ ∀ p, p < n → i ≠ 820 + 8 * p + 3 ∧ i ≠ 820 + 8 * p + 4 ∧ i ≠ 820 + 8 * p + 5 ∧ i ≠ 820 + 8 * p + 6
theorem s3W_fr {pr : Int32} {ps n f rr nl nC j : Nat} (hb : Bd n f rr nC) (hps : ps < 80) (hj : Stc n nC j) : ∀ (k i : Nat) (w : Nat → Int32), WS w n f rr nl nC → s3W pr ps n f nC k i w j = w j
  | 0, _, _, _ => rfl
  | k + 1, i, w, h => by
    simp only [s3W]
    split
    · rename_i hi
      have hC := hb.2.2.2
      have hcv := h.2 i hi
      have h2 : WS (csW pr ps i n f w) n f rr nl nC := by
        have := s3W_WS (pr := pr) hb hps 1 i w h
        simp only [s3W, if_pos hi] at this
        exact this
      rw [s3W_fr (rr := rr) (nl := nl) hb hps hj k (i + 1) _ h2]
      exact csW_fr (by omega) hb.2.1 hps hcv (fun q hq => hj.2.1 i hi q hq) hj.2.2.1 (fun p hp => ⟨(hj.2.2.2 p hp).1, (hj.2.2.2 p hp).2.2.1, (hj.2.2.2 p hp).2.2.2⟩)
    · rfl
theorem secW_fr {tr : Option (Nat → Int32)} {pr : Int32} {ps n f rr nl nC j : Nat} {w : Nat → Int32} (hb : Bd n f rr nC) (hps : ps < 80) (hj : Stc n nC j) (h : WS w n f rr nl nC) : secW tr pr ps n f rr nl nC w j = w j := by
  have hC := hb.2.2.2
  have hN := hb.1
  have h1 : WS (s1W n (n + 1) 0 w) n f rr nl nC := ⟨WB_fr hb h.1 (fun j hj => s1W_fr (fun q _ => by rcases hj with h | h | h | h | h | ⟨q1, hq1, h | h⟩ <;> omega) _ _ _), fun c hc => CV_fr (h.2 c hc) (fun q hq => s1W_fr (fun q2 _ => by omega) _ _ _)⟩
  have h2 : WS (s2W tr n rr nl nC (n + 1) 0 (s1W n (n + 1) 0 w)) n f rr nl nC := ⟨WB_fr hb h1.1 (fun j hj => s2W_fr (fun q _ => by rcases hj with h | h | h | h | h | ⟨q1, hq1, h | h⟩ <;> omega) _ _ _), fun c hc => CV_fr (h1.2 c hc) (fun q hq => s2W_fr (fun q2 _ => by omega) _ _ _)⟩
  unfold secW
  rw [up_n hj.1, s3W_fr (rr := rr) (nl := nl) hb hps hj _ _ _ h2, s2W_fr (fun q hq => (hj.2.2.2 q hq).2.1), s1W_fr (fun q hq => (hj.2.2.2 q hq).1)]
theorem edW_fr {T : tT} {ps n f rr nl nC wi j : Nat} (hb : Bd n f rr nC) (hps : ps < 80) (hj : Stc n nC j) : ∀ (q i : Nat) (w : Nat → Int32), WS w n f rr nl nC → (edW (sdW T ps n f rr nl nC) n wi q i w).1 j = w j
  | 0, _, _, _ => rfl
  | q + 1, i, w, h => by
    simp only [edW]
    split
    · split
      · exact (edW_fr hb hps hj q _ _ (secW_WS hb hps h)).trans (secW_fr hb hps hj h)
      · rfl
    · rfl
theorem itW_fr {T : tT} {ps n f rr nl nC j : Nat} (hb : Bd n f rr nC) (hps : ps < 80) (hj : Stc n nC j) : ∀ (m : Nat) (w : Nat → Int32), WS w n f rr nl nC → itW (sdW T ps n f rr nl nC) m w j = w j
  | 0, _, _ => rfl
  | m + 1, w, h => by
    simp only [itW]
    exact (itW_fr hb hps hj m _ (secW_WS hb hps h)).trans (secW_fr hb hps hj h)
/-- the told part of the row: floors, cars, where cars begin, rules -/
def BI (w : Nat → Int32) (f nC : Nat) : Prop := (f ≤ 80 ∧ nC ≤ 4) ∧ w 0 = nI f ∧ w 1 = nI nC ∧ (∀ c, c < nC → ∃ a, a < f ∧ w (10 + 20 * c + 10) = nI a) ∧ ∀ r, r < 3 → RV w r (nlW w r)
theorem nlW_fr {w w' : Nat → Int32} {r : Nat} (e : ∀ i, 1300 ≤ i → w' i = w i) : nlW w' r = nlW w r := by
  unfold nlW wN
  rw [e _ (by omega)]
theorem BI_fr {w w' : Nat → Int32} {f nC : Nat} (h : BI w f nC) (e : ∀ i, (i = 0 ∨ i = 1 ∨ 1300 ≤ i ∨ ∃ c, c < nC ∧ i = 10 + 20 * c + 10) → w' i = w i) : BI w' f nC := by
  obtain ⟨h1, h2, h3, h4, h5⟩ := h
  refine ⟨h1, by rw [e 0 (by omega)]; exact h2, by rw [e 1 (by omega)]; exact h3, fun c hc => ?_, fun r hr => ?_⟩
  · rw [e _ (Or.inr (Or.inr (Or.inr ⟨c, hc, rfl⟩)))]
    exact h4 c hc
  · rw [nlW_fr (fun i hi => e i (by omega))]
    exact RV_fr hr (fun i hi => e i (by omega)) (h5 r hr)
/-- the row of a morning, nobody there -/
theorem pkW_at {nC : Nat} (hC : nC ≤ 4) : ∀ (k c : Nat) (w : Nat → Int32), nC < c + k → ∀ d, c ≤ d → d < nC → pkW nC k c w (10 + 20 * d + 0) = w (10 + 20 * d + 10) ∧ pkW nC k c w (10 + 20 * d + 1) = nI 0 ∧ pkW nC k c w (10 + 20 * d + 2) = nI 0
  | 0, c, _, h, d, h1, h2 => absurd h (by omega)
  | k + 1, c, w, h, d, h1, h2 => by
    have hc : c < nC := by omega
    simp only [pkW, if_pos hc]
    by_cases e : d = c
    · subst e
      have fr : ∀ j, j < 4 → ∀ w' : Nat → Int32, pkW nC k (d + 1) w' (10 + 20 * d + j) = w' (10 + 20 * d + j) := by
        intro j hj
        have key : ∀ (k c : Nat) (w' : Nat → Int32), d < c → pkW nC k c w' (10 + 20 * d + j) = w' (10 + 20 * d + j) := by
          intro k
          induction k with
          | zero => intro c w' _; rfl
          | succ k ih =>
            intro c w' hd
            simp only [pkW]
            split
            · rw [ih (c + 1) _ (by omega), up_n (by omega), up_n (by omega), up_n (by omega), up_n (by omega)]
            · rfl
        exact fun w' => key k (d + 1) w' (by omega)
      have fr0 := fr 0 (by decide)
      have fr1 := fr 1 (by decide)
      have fr2 := fr 2 (by decide)
      refine ⟨?_, ?_, ?_⟩
      · rw [fr0, up_n (by omega), up_n (by omega), up_n (by omega), up_s]
      · rw [fr1, up_n (by omega), up_n (by omega), up_s]
      · rw [fr2, up_n (by omega), up_s]
    · obtain ⟨a1, a2, a3⟩ := pkW_at hC k (c + 1) _ (by omega) d (by omega) h2
      refine ⟨a1.trans ?_, a2, a3⟩
      rw [up_n (by omega), up_n (by omega), up_n (by omega), up_n (by omega)]
theorem oo1_at {nC : Nat} : ∀ (k c : Nat) (w : Nat → Int32), nC < c + k → ∀ d, c ≤ d → d < nC → oo1 nC k c w (10 + 20 * d + 5) = -1
  | 0, c, _, h, d, h1, h2 => absurd h (by omega)
  | k + 1, c, w, h, d, h1, h2 => by
    have hc : c < nC := by omega
    simp only [oo1, if_pos hc]
    by_cases e : d = c
    · subst e
      have key : ∀ (k c : Nat) (w' : Nat → Int32), d < c → oo1 nC k c w' (10 + 20 * d + 5) = w' (10 + 20 * d + 5) := by
        intro k
        induction k with
        | zero => intro c w' _; rfl
        | succ k ih =>
          intro c w' hd
          simp only [oo1]
          split
          · rw [ih (c + 1) _ (by omega), up_n (by omega), up_n (by omega)]
          · rfl
      rw [key k (d + 1) _ (by omega), up_s]
    · exact oo1_at k (c + 1) _ (by omega) d (by omega) h2
theorem mo0_fr {nC : Nat} {rule : Int32} {w : Nat → Int32} {i : Nat} (h2 : i ≠ 2 ∧ i ≠ 3 ∧ i ≠ 4) (h : ∀ c, c < nC → ∀ j, j < 6 → i ≠ 10 + 20 * c + j) (h3 : i < 420 ∨ 740 ≤ i) : mo0 nC rule w i = w i := by
  unfold mo0
  rw [pkW_fr (fun c hc j hj => h c hc j (by omega)), oo2_fr _ _ _ h3, oo1_fr (fun c hc => ⟨h c hc 4 (by decide), h c hc 5 (by decide)⟩), up_n h2.2.2, up_n h2.2.1, up_n h2.1]
theorem mo0_2 {nC : Nat} {rule : Int32} {w : Nat → Int32} : mo0 nC rule w 2 = nI 0 ∧ mo0 nC rule w 4 = rule := by
  unfold mo0
  constructor
  · rw [pkW_fr (fun c hc j hj => by omega), oo2_fr _ _ _ (by omega), oo1_fr (fun c hc => ⟨by omega, by omega⟩), up_n (by omega), up_n (by omega), up_s]
  · rw [pkW_fr (fun c hc j hj => by omega), oo2_fr _ _ _ (by omega), oo1_fr (fun c hc => ⟨by omega, by omega⟩), up_s]
theorem mo0_CV {nC f : Nat} {rule : Int32} {w : Nat → Int32} (h : BI w f nC) : ∀ c, c < nC → CV (mo0 nC rule w) c f := by
  intro c hc
  have hC := h.1.2
  have e10 : (oo2 321 420 (oo1 nC (nC + 1) 0 (up (up (up w 2 (nI 0)) 3 (nI 0)) 4 rule))) (10 + 20 * c + 10) = w (10 + 20 * c + 10) := by
    rw [oo2_fr _ _ _ (by omega), oo1_fr (fun d hd => ⟨by omega, by omega⟩), up_n (by omega), up_n (by omega), up_n (by omega)]
  have e5 : mo0 nC rule w (10 + 20 * c + 5) = -1 := by
    unfold mo0
    rw [pkW_fr (fun d hd j hj => by omega), oo2_fr _ _ _ (by omega)]
    exact oo1_at _ _ _ (by omega) c (by omega) hc
  obtain ⟨a1, a2, a3⟩ := pkW_at hC (nC + 1) 0 (oo2 321 420 (oo1 nC (nC + 1) 0 (up (up (up w 2 (nI 0)) 3 (nI 0)) 4 rule))) (by omega) c (by omega) hc
  obtain ⟨a, ha, ea⟩ := h.2.2.2.1 c hc
  refine ⟨⟨a, ha, a1.trans (e10.trans ea)⟩, Or.inl a2, fun z => ?_, Or.inl e5⟩
  rw [show mo0 nC rule w (10 + 20 * c + 2) = nI 0 from a3] at z
  exact absurd z (by decide)

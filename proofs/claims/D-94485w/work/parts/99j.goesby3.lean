set_option maxRecDepth 100000
section T99J
variable {g : fc_G} {l : Launch} {M : fc_M} {S : tT} {U : tU} {β : Nat} {w : Nat → Int32} {π f nC : Nat} {S0 : tT} {U0 : tU}
/-- what a second keeps of the class's tower -/
def KI (g : fc_G) (M : fc_M) (S : tT) (U : tU) (π β f nC n rr nl ps : Nat) (w : Nat → Int32) : Prop := PC g M S π β f nC w ∧ WS w n f rr nl nC ∧ FB U β f w ∧ ((S β 6 = -1 ∨ (S β 7 = nI ps ∧ ps < f)) ∧ ps < 80 ∧ JK w (S β 6) ps n) ∧ ∀ c, c < nC → w (10 + 20 * c + 4) = 0 ∨ w (10 + 20 * c + 4) = nI 1
theorem KI_cs {n rr nl ps c : Nat} {S2 : tT} {U2 : tU} (hb : Bd n f rr nC) (h : KI g M S U π β f nC n rr nl ps w) (hc : c < nC) (hF : FB U2 β f (csW (S β 6) ps c n f w)) (hS : SF S S2 β) : KI g M S2 U2 π β f nC n rr nl ps (csW (S β 6) ps c n f w) := by
  obtain ⟨h1, h2, h3, ⟨h4, h5, h6⟩, h7⟩ := h
  obtain ⟨b1, b2, b3, b4⟩ := hb
  have hfr : ∀ i, (∀ k, k < 4 → i ≠ 10 + 20 * c + k) → (i < 420 ∨ 740 ≤ i) → (∀ p, p < n → i ≠ 820 + 8 * p + 3 ∧ i ≠ 820 + 8 * p + 5 ∧ i ≠ 820 + 8 * p + 6) → csW (S β 6) ps c n f w i = w i := fun i e1 e2 e3 => csW_fr (by omega) b2 (by omega) (h2.2 c hc) e1 e2 e3
  have e6 : S2 β 6 = S β 6 := hS β 6 (by have := h1.2.2.1.2.2; omega) (by omega)
  have e7 : S2 β 7 = S β 7 := hS β 7 (by have := h1.2.2.1.2.2; omega) (by omega)
  refine ⟨(h1.fr (fun i hi => hfr i (fun k hk => ?_) ?_ (fun p hp => ?_))).sf hS, ?_, hF, ⟨by rw [e6, e7]; exact h4, h5, fun i hi hj => ?_⟩, fun c2 hc2 => ?_⟩
  · rcases hi with hi | hi | ⟨c9, j9, g1, g2, hi⟩ <;> omega
  · rcases hi with hi | hi | ⟨c9, j9, g1, g2, hi⟩ <;> omega
  · rcases hi with hi | hi | ⟨c9, j9, g1, g2, hi⟩ <;> omega
  · have h9 := s3W_WS (pr := S β 6) (ps := ps) ⟨b1, b2, b3, b4⟩ (by omega) 1 c w h2
    have e9 : s3W (S β 6) ps n f nC 1 c w = csW (S β 6) ps c n f w := by
      rw [s3W, if_pos hc]
      rfl
    rw [e9] at h9
    exact h9
  · rw [hfr _ (fun k hk => by omega) (by omega) (fun p hp => by omega)]
    exact h6 i hi (by rw [← e6]; exact hj)
  · rw [hfr _ (fun k hk => by omega) (by omega) (fun p hp => by omega)]
    exact h7 c2 hc2
theorem kG_X3_X3_carGoes : GoodIn lw_all (wsV RX3 231 RX3 yX3_carGoes (ws_ yX3_carGoes cX3_carGoes 3 (none))) := lw_V q925 q927 qs26 q121 q928
theorem kP_X3_carGoes : kPar yX3_carGoes 1 := by decide +kernel
set_option maxHeartbeats 1000000 in
theorem m_goesBy3 {n0 s0 : Nat} (hL : LT g M β) {n rr nl ps : Nat} (hb : Bd n f rr nC) : ∀ (k c : Nat) (w : Nat → Int32) (S : tT) (U : tU), KI g M S U π β f nC n rr nl ps w → SF S0 S β → UF U0 U β → S β 6 = S0 β 6 → c ≤ nC → nC < c + k → fc_X g l yX3_goesBy cX3_goesBy 2 (none) 406 n0 s0 (cR M S U β w) 112 [some (.ref (fc_B g + β)), some (.int (nI c))] [] (cq_v M S0 U0 β f (up (s3W (S0 β 6) ps n f nC k c w) 3 (s3W (S0 β 6) ps n f nC k c w 3 + nI 1))) := by
  intro k
  induction k with
  | zero => intro c w S U hK hSF hUF h6 h1 h2; omega
  | succ k ih =>
    intro c w S U hK hSF hUF h6 h1 h2
    have hO := hK.1
    have hn4 := hb.2.2.2
    refine x_iload_n dX3_goesBy_112 rfl ?_
    refine x_aload_n dX3_goesBy_113 rfl ?_
    refine k_this0 11 rfl hL dX3_goesBy_114 q367 ?_
    refine k_planN hO dX3_goesBy_117 q411 ?_
    refine k_plF 1 (nI nC) hO (Or.inr (Or.inl ⟨rfl, rfl⟩)) dX3_goesBy_120 q212 ?_
    refine x_icmpN_ge (tgt := 137) dX3_goesBy_123 (by decide) (by omega) (by omega) (fun hc123 => ?_) (fun hc123 => ?_)
    · refine x_aload_n dX3_goesBy_137 rfl ?_
      refine x_dup dX3_goesBy_138 rfl ?_
      refine k_tget 3 hL dX3_goesBy_139 (by decide) q353 ?_
      refine x_ic1 dX3_goesBy_142 ?_
      refine x_iadd dX3_goesBy_143 ?_
      refine k_tput 3 hL dX3_goesBy_144 (by decide) q353 rfl ?_
      rw [s3W, if_neg (Nat.not_lt.mpr hc123)]
      exact x_vret dX3_goesBy_147 rfl ⟨rfl, S, U, rfl, FB_fr hK.2.2.1 (fun c9 hc9 q9 hq9 => by rw [up_n (by omega)]), hUF, hSF⟩
    · refine x_aload_n dX3_goesBy_126 rfl ?_
      refine x_iload_n dX3_goesBy_127 rfl ?_
      refine k_V1qv hL dX3_goesBy_128 kG_X3_X3_carGoes kP_X3_carGoes rfl (by omega) (by decide) (Nat.le_of_ble_eq_true rfl) (d_carGoes hL hO hb.1 hK.2.1.1.2.2.1 (by omega) hc123 (hK.2.1.2 c hc123) hK.2.2.2.1.1 hK.2.2.2.1.2.1 hK.2.2.2.1.2.2 hK.2.2.1 hK.2.1.1.2.2.2.2.2 (hK.2.2.2.2 c hc123)) (fun S2 U2 e3 e4 e5 => ?_)
      have hK2 := KI_cs hb hK hc123 e3 e5
      have e6 : S2 β 6 = S β 6 := e5 β 6 (by have := hO.2.2.1.2.2; omega) (by omega)
      refine x_iincN (n := 1) dX3_goesBy_131 (by decide) rfl (by decide) rfl ?_
      refine x_goto (tgt := 112) dX3_goesBy_134 (by decide) ?_
      rw [s3W, if_pos hc123, ← h6]
      rw [← e6]
      have ihx := ih (c + 1) _ S2 U2 hK2 (hSF.trans e5) (hUF.trans e4) (e6.trans h6) (by omega) (by omega)
      rw [← h6, ← e6] at ihx
      exact ihx
end T99J

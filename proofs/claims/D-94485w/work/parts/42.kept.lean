set_option maxRecDepth 100000
section T42
variable {g : fc_G} {l : Launch} {M : fc_M} {T : tT} {w : Nat → Int32}
set_option maxHeartbeats 1000000 in
theorem b_sec115 {n0 s0 : Nat} (hM : tw0 + 17 ≤ fc_nx M) {T0 : tT} (hS : Sim T0 T) {v1 : Option Value} : fc_X g l yX6_aSecond cX6_aSecond 2 (none) 10 n0 s0 (tv g M T w) 115 [some (.ref (fc_B g + tw0)), v1] [] (tv_v g M (fun T2 w2 => Sim T0 T2 ∧ w2 = up w 3 (w 3 + nI 1))) := by
  refine x_aload_n dX6_aSecond_115 rfl ?_
  refine v_geta 0 hM dX6_aSecond_116 (by decide) rfl q1130 ?_
  refine x_ic3 dX6_aSecond_119 ?_
  refine x_dup2 dX6_aSecond_120 rfl rfl ?_
  refine v_wld hM dX6_aSecond_121 rfl (by omega) ?_
  refine x_ic1 dX6_aSecond_122 ?_
  refine x_iadd dX6_aSecond_123 ?_
  refine v_wst hM dX6_aSecond_124 rfl (by omega) ?_
  exact x_vret dX6_aSecond_125 rfl (tv_vp ⟨hS, rfl⟩)
set_option maxHeartbeats 1000000 in
theorem b_sec92 {n0 s0 : Nat} (hM : tw0 + 17 ≤ fc_nx M) {n f rr nl nC : Nat} (hb : Bd n f rr nC) {T0 : tT} (hS : Sim T0 T) {ps : Nat} (hps : T 0 30 = nI ps) (hpl : ps < 80) (hB : WB w n f rr nl nC) (hCV : ∀ c, c < nC → CV w c f) {v1 : Option Value} : fc_X g l yX6_aSecond cX6_aSecond 2 (none) 10 n0 s0 (tv g M T w) 92 [some (.ref (fc_B g + tw0)), v1] [] (tv_v g M (fun T2 w2 => Sim T0 T2 ∧ w2 = up (s3W (T 0 29) ps n f nC (nC + 1) 0 w) 3 (s3W (T 0 29) ps n f nC (nC + 1) 0 w 3 + nI 1))) := by
  refine x_ic0 dX6_aSecond_92 ?_
  refine x_istore_n dX6_aSecond_93 (by decide) rfl ?_
  exact l_sec3 hM hb hps hpl (b_sec115 hM hS) (nC + 1) 0 w hB (fun c _ h => hCV c h) (by omega) (by omega) rfl
set_option maxHeartbeats 1000000 in
theorem b_sec49 {n0 s0 : Nat} (hM : tw0 + 17 ≤ fc_nx M) {n f rr nl nC : Nat} (hb : Bd n f rr nC) {ps : Nat} (hps : T 0 30 = nI ps) (hpl : ps < 80) (hB : WB w n f rr nl nC) (hCV : ∀ c, c < nC → CV w c f) {v1 : Option Value} : fc_X g l yX6_aSecond cX6_aSecond 2 (none) 10 n0 s0 (tv g M T w) 49 [some (.ref (fc_B g + tw0)), v1] [] (tv_v g M (fun T2 w2 => Sim T T2 ∧ w2 = up (s3W (T 0 29) ps n f nC (nC + 1) 0 (s2W (trO T) n rr nl nC (n + 1) 0 w)) 3 (s3W (T 0 29) ps n f nC (nC + 1) 0 (s2W (trO T) n rr nl nC (n + 1) 0 w) 3 + nI 1))) := by
  refine x_ic0 dX6_aSecond_49 ?_
  refine x_istore_n dX6_aSecond_50 (by decide) rfl ?_
  have hC : nC ≤ 4 := hb.2.2.2
  refine l_sec2 hM hb (fun T2 hS2 => ?_) (n + 1) 0 T w Sim.rf hB (by omega) (by omega) rfl
  have e1 : T2 0 29 = T 0 29 := hS2 0 29 (by decide) (by decide) (by decide)
  rw [← e1]
  exact b_sec92 hM hb hS2 (by rw [hS2 0 30 (by decide) (by decide) (by decide)]; exact hps) hpl (WB_fr hb hB (fun j hj => s2W_fr (fun q _ => by rcases hj with h | h | h | h | h | ⟨q1, hq1, h | h⟩ <;> have := hb.1 <;> omega) _ _ _)) (fun c hc => CV_fr (hCV c hc) (fun q hq => s2W_fr (fun q2 _ => by omega) _ _ _))
set_option maxHeartbeats 1000000 in
theorem c_aSecond (hM : tw0 + 17 ≤ fc_nx M) {n f rr nl nC : Nat} (hb : Bd n f rr nC) {ps : Nat} (hps : T 0 30 = nI ps) (hpl : ps < 80) (hB : WB w n f rr nl nC) (hCV : ∀ c, c < nC → CV w c f) : fc_CX g l yX6_aSecond cX6_aSecond 2 (none) 10 [.ref (fc_B g + tw0)] (tv g M T w) (tv_v g M (fun T2 w2 => Sim T T2 ∧ w2 = secW (trO T) (T 0 29) ps n f rr nl nC w)) := by
  refine fc_enter (by decide) (Nat.le_of_ble_eq_true rfl) rfl ?_
  refine x_ic0 dX6_aSecond_0 ?_
  refine x_istore_n dX6_aSecond_1 (by decide) rfl ?_
  have hC : nC ≤ 4 := hb.2.2.2
  exact l_sec1 hM hb.1 (b_sec49 hM hb hps hpl (WB_fr hb hB (fun j hj => s1W_fr (fun q _ => by rcases hj with h | h | h | h | h | ⟨q1, hq1, h | h⟩ <;> have := hb.1 <;> omega) _ _ _)) (fun c hc => CV_fr (hCV c hc) (fun q hq => s1W_fr (fun q2 _ => by omega) _ _ _))) (n + 1) 0 w hB.2.2.1 (by omega) (by omega) rfl
end T42

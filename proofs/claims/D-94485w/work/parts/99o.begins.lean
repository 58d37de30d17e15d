set_option maxRecDepth 100000
section T99O
variable {g : fc_G} {l : Launch} {M : fc_M} {S : tT} {U : tU} {β : Nat} {w : Nat → Int32} {π f nC : Nat}
def bgL (pf : Nat → Int32) : Nat → Nat → (Nat → Int32) → (Nat → Int32)
  | 0, _, w => w
  | k + 1, c, w => if c < 4 then bgL pf k (c + 1) (up (up (up (up (up (up w (10 + 20 * c + 0) (pf c)) (10 + 20 * c + 1) (nI 0)) (10 + 20 * c + 2) (nI 0)) (10 + 20 * c + 3) (nI 0)) (10 + 20 * c + 5) (-1)) (10 + 20 * c + 4) (nI 0)) else w
def bgU (β : Nat) : Nat → Nat → tU → tU
  | 0, _, U => U
  | k + 1, c, U => if c < 4 then bgU β k (c + 1) (tuL (tuL U (β + 63 + c) 6 0) (β + 63 + c) 7 0) else U
set_option maxHeartbeats 1000000 in
theorem m_begins {n0 s0 : Nat} (hL : LT g M β) : ∀ (k c : Nat) (w : Nat → Int32) (U : tU) (o2 : Option Value), PC g M S π β f nC w → c ≤ 4 → 4 < c + k → fc_X g l yX3_begins cX3_begins 3 (none) 1 n0 s0 (cR M S U β w) 12 [some (.ref (fc_B g + β)), some (.int (nI c)), o2] [] (fc_rn (cR M S (bgU β k c U) β (bgL (fun c => S (π + 5) c) k c w))) := by
  intro k
  induction k with
  | zero => intro c w U o2 hO h1 h2; omega
  | succ k ih =>
    intro c w U o2 hO h1 h2
    refine x_iload_n dX3_begins_12 rfl ?_
    refine x_ic4 dX3_begins_13 ?_
    refine x_icmpN_ge (tgt := 81) dX3_begins_14 (by decide) (by omega) (by omega) (fun hc14 => ?_) (fun hc14 => ?_)
    · rw [bgL, bgU, if_neg (Nat.not_lt.mpr hc14), if_neg (Nat.not_lt.mpr hc14)]
      exact x_vret dX3_begins_81 rfl fc_rn.of
    · refine x_aload_n dX3_begins_17 rfl ?_
      refine k_cars 1 rfl hL dX3_begins_18 q349 ?_
      refine x_iload_n dX3_begins_21 rfl ?_
      refine k_cald hL dX3_begins_22 (by omega) ?_
      refine x_astore_n dX3_begins_23 (by decide) rfl ?_
      refine x_aload_n dX3_begins_24 rfl ?_
      refine x_aload_n dX3_begins_25 rfl ?_
      refine k_this0 11 rfl hL dX3_begins_26 q367 ?_
      refine k_planN hO dX3_begins_29 q411 ?_
      refine k_plA 7 4 hO rfl (by decide) dX3_begins_32 q228 ?_
      refine x_iload_n dX3_begins_35 rfl ?_
      refine q_iald dX3_begins_36 (show π + 1 + 4 < fc_nx M by have := hO.2.2.2.1.1; omega) (hO.2.2.2.1.2.2.1 4 (by decide)) (by decide) hc14 ?_
      refine x_top (clr_o (by have := hO.2.2.1.1; omega)) ?_
      refine k_cput 0 0 rfl hL dX3_begins_37 (by decide) q309 rfl (by omega) ?_
      refine x_aload_n dX3_begins_40 rfl ?_
      refine x_ic0 dX3_begins_41 ?_
      refine k_cput 1 1 rfl hL dX3_begins_42 (by decide) q312 rfl (by omega) ?_
      refine x_aload_n dX3_begins_45 rfl ?_
      refine x_ic0 dX3_begins_46 ?_
      refine k_cput 2 2 rfl hL dX3_begins_47 (by decide) q315 rfl (by omega) ?_
      refine x_aload_n dX3_begins_50 rfl ?_
      refine x_ic0 dX3_begins_51 ?_
      refine k_cput 3 3 rfl hL dX3_begins_52 (by decide) q318 rfl (by omega) ?_
      refine x_aload_n dX3_begins_55 rfl ?_
      refine x_icm1 dX3_begins_56 ?_
      refine k_cput 4 5 rfl hL dX3_begins_57 (by decide) q321 rfl (by omega) ?_
      refine x_aload_n dX3_begins_60 rfl ?_
      refine x_ic0 dX3_begins_61 ?_
      refine k_cputz 5 rfl hL dX3_begins_62 q324 rfl rfl rfl (by omega) ?_
      refine x_aload_n dX3_begins_65 rfl ?_
      refine x_lconst (v := 0) dX3_begins_66 rfl ?_
      refine k_cputl 6 (by decide) hL dX3_begins_67 q327 rfl (by omega) ?_
      refine x_aload_n dX3_begins_70 rfl ?_
      refine x_lconst (v := 0) dX3_begins_71 rfl ?_
      refine k_cputl 7 (by decide) hL dX3_begins_72 q329 rfl (by omega) ?_
      refine x_iincN (n := 1) dX3_begins_75 (by decide) rfl (by decide) rfl ?_
      refine x_goto (tgt := 12) dX3_begins_78 (by decide) ?_
      rw [bgL, bgU, if_pos hc14, if_pos hc14]
      exact ih (c + 1) _ _ _ (hO.fr (fun i hi => by rcases hi with hi | hi | ⟨c9, j9, g1, g2, hi⟩ <;> rw [up_n (by omega), up_n (by omega), up_n (by omega), up_n (by omega), up_n (by omega), up_n (by omega)])) (by omega) (by omega)
set_option maxHeartbeats 1000000 in
theorem d_begins (hL : LT g M β) (hO : PC g M S π β f nC w) : fc_CX g l yX3_begins cX3_begins 3 (none) 1 [.ref (fc_B g + β)] (cR M S U β w) (fc_rn (cR M S (bgU β 5 0 U) β (bgL (fun c => S (π + 5) c) 5 0 (up (up w 2 (nI 0)) 3 (nI 0))))) := by
  refine fc_enter (by decide) (Nat.le_of_ble_eq_true rfl) rfl ?_
  refine x_aload_n dX3_begins_0 rfl ?_
  refine x_ic0 dX3_begins_1 ?_
  refine k_tput 2 hL dX3_begins_2 (by decide) q351 rfl ?_
  refine x_aload_n dX3_begins_5 rfl ?_
  refine x_ic0 dX3_begins_6 ?_
  refine k_tput 3 hL dX3_begins_7 (by decide) q353 rfl ?_
  refine x_ic0 dX3_begins_10 ?_
  refine x_istore_n dX3_begins_11 (by decide) rfl ?_
  exact m_begins hL 5 0 _ _ _ (hO.fr (fun i hi => by rcases hi with hi | hi | ⟨c9, j9, g1, g2, hi⟩ <;> rw [up_n (by omega), up_n (by omega)])) (by omega) (by omega)
end T99O

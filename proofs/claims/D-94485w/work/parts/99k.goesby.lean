set_option maxRecDepth 100000
section T99K
variable {g : fc_G} {l : Launch} {M : fc_M} {S : tT} {U : tU} {β : Nat} {w : Nat → Int32} {π f nC : Nat} {S0 : tT} {U0 : tU}
theorem KI_up {n rr nl ps i j : Nat} {v : Int32} (hb : Bd n f rr nC) (h : KI g M S U π β f nC n rr nl ps w) (hi : i < n) (hj : j = 820 + 8 * i + 3 ∨ j = 820 + 8 * i + 4) : KI g M S U π β f nC n rr nl ps (up w j v) := by
  obtain ⟨h1, ⟨h2, h2b⟩, h3, ⟨h4, h5, h6⟩, h7⟩ := h
  have hn := hb.1
  refine ⟨h1.fr (fun q hq => up_n ?_), ⟨WB_fr hb h2 (fun q hq => up_n ?_), fun c hc => CV_fr (h2b c hc) (fun k hk => up_n ?_)⟩, FB_fr h3 (fun c9 hc9 q9 hq9 => up_n ?_), ⟨h4, h5, fun q hq e => by rw [up_n (by omega)]; exact h6 q hq e⟩, fun c hc => by rw [up_n (by have := hb.2.2.2; omega)]; exact h7 c hc⟩
  · rcases hq with hq | hq | ⟨c9, j9, g1, g2, hq⟩ <;> omega
  · rcases hq with hq | hq | hq | hq | hq | ⟨p9, g1, hq⟩ <;> omega
  · have := hb.2.2.2; omega
  · have := hb.2.1; omega
theorem stL_w {w' : Nat → Int32} {r : Nat} (e : ∀ i, 1300 ≤ i → w' i = w i) : ∀ q i, stL w' r q i = stL w r q i := by
  intro q
  induction q with
  | zero => intro i; rfl
  | succ q ih => intro i; rw [stL, stL, e _ (by omega), e _ (by omega), ih]
theorem TX_w {w' : Nat → Int32} {τ r nl : Nat} (e : ∀ i, 1300 ≤ i → w' i = w i) (q : TX g M S τ w r nl) : TX g M S τ w' r nl := by
  obtain ⟨t, hr, m, hl⟩ := q
  refine ⟨t, hr, m, fun i hi => ?_⟩
  have e1 : toW w' r i = toW w r i := by rw [toW, toW, e _ (by omega)]
  have e2 : miW w' r i = miW w r i := by rw [miW, miW, e _ (by omega)]
  have e3 : frW w' r i = frW w r i := by rw [frW, frW, e _ (by omega)]
  rw [e1, e2, e3, stL_w e, stL_w e, e _ (by omega)]
  exact hl i hi
def bcV (tr : Option (Nat → Int32)) (p n rr nl nC : Nat) (w : Nat → Int32) : Int32 := match tr with
  | some fv => fv p
  | none => bcW w p n rr nl nC (nC + 1) 0 (-1) (nI 0)
theorem gcW_V {tr : Option (Nat → Int32)} {p n rr nl : Nat} : gcW tr p n rr nl nC w = up w (820 + 8 * p + 4) (bcV tr p n rr nl nC w) := by
  cases tr <;> rfl
theorem kG_X3_X3_bestCar : GoodIn lw_all (wsV RX3 228 RX3 yX3_bestCar (ws_ yX3_bestCar cX3_bestCar 6 (some .int))) := lw_V q876 q878 qs24 q121 q879
theorem kP_X3_bestCar : kPar yX3_bestCar 1 := by decide +kernel
set_option maxHeartbeats 1000000 in
theorem m_goesBy2 {n0 s0 : Nat} (hL : LT g M β) {n rr nl ps τ : Nat} {tr : Option (Nat → Int32)} (hb : Bd n f rr nC) (hB : ∀ (S9 : tT) (U : tU) (w : Nat → Int32) (i : Nat), KI g M S9 U π β f nC n rr nl ps w → TX g M S9 τ w rr nl → SF S0 S9 β → i < n → fc_CX g l yX3_bestCar cX3_bestCar 6 (some .int) 405 [.ref (fc_B g + β), .int (nI i)] (cR M S9 U β w) (bs_i M S9 U β (bcV tr i n rr nl nC w) w)) : ∀ (k i : Nat) (w : Nat → Int32) (S : tT) (U : tU), KI g M S U π β f nC n rr nl ps w → TX g M S τ w rr nl → SF S0 S β → UF U0 U β → S β 6 = S0 β 6 → i ≤ n → n < i + k → fc_X g l yX3_goesBy cX3_goesBy 2 (none) 406 n0 s0 (cR M S U β w) 56 [some (.ref (fc_B g + β)), some (.int (nI i))] [] (cq_v M S0 U0 β f (up (s3W (S0 β 6) ps n f nC (nC + 1) 0 (s2W tr n rr nl nC k i w)) 3 (s3W (S0 β 6) ps n f nC (nC + 1) 0 (s2W tr n rr nl nC k i w) 3 + nI 1))) := by
  intro k
  induction k with
  | zero => intro i w S U hK hT hSF hUF h6 h1 h2; omega
  | succ k ih =>
    intro i w S U hK hT hSF hUF h6 h1 h2
    have hn := hb.1
    refine x_iload_n dX3_goesBy_56 rfl ?_
    refine x_aload_n dX3_goesBy_57 rfl ?_
    refine k_tget 2 hL dX3_goesBy_58 (by decide) q351 ?_
    refine x_top hK.2.1.1.2.2.1 ?_
    refine x_icmpN_ge (tgt := 110) dX3_goesBy_61 (by decide) (by omega) (by omega) (fun hc61 => ?_) (fun hc61 => ?_)
    · refine x_ic0 dX3_goesBy_110 ?_
      refine x_istore_n dX3_goesBy_111 (by decide) rfl ?_
      rw [s2W, if_neg (Nat.not_lt.mpr hc61)]
      exact m_goesBy3 hL hb (nC + 1) 0 w S U hK hSF hUF h6 (by omega) (by omega)
    · refine x_aload_n dX3_goesBy_64 rfl ?_
      refine k_people 0 rfl hL dX3_goesBy_65 q347 ?_
      refine x_iload_n dX3_goesBy_68 rfl ?_
      refine k_pald hL dX3_goesBy_69 (by omega) ?_
      refine k_pget 3 hL dX3_goesBy_70 (by decide) q277 (by omega) ?_
      refine x_ic1 dX3_goesBy_73 ?_
      refine x_icmp_ne (tgt := 104) dX3_goesBy_74 (by decide) (fun hc74 => ?_) (fun hc74 => ?_)
      · refine x_iincN (n := 1) dX3_goesBy_104 (by decide) rfl (by decide) rfl ?_
        refine x_goto (tgt := 56) dX3_goesBy_107 (by decide) ?_
        rw [s2W, if_pos hc61, if_neg hc74]
        exact ih (i + 1) w S U hK hT hSF hUF h6 (by omega) (by omega)
      · refine x_aload_n dX3_goesBy_77 rfl ?_
        refine k_people 0 rfl hL dX3_goesBy_78 q347 ?_
        refine x_iload_n dX3_goesBy_81 rfl ?_
        refine k_pald hL dX3_goesBy_82 (by omega) ?_
        refine k_pget 4 hL dX3_goesBy_83 (by decide) q280 (by omega) ?_
        refine x_icm1 dX3_goesBy_86 ?_
        refine x_icmp_ne (tgt := 104) dX3_goesBy_87 (by decide) (fun hc87 => ?_) (fun hc87 => ?_)
        · refine x_iincN (n := 1) dX3_goesBy_104 (by decide) rfl (by decide) rfl ?_
          refine x_goto (tgt := 56) dX3_goesBy_107 (by decide) ?_
          rw [s2W, if_pos hc61, if_pos hc74, if_neg hc87]
          exact ih (i + 1) w S U hK hT hSF hUF h6 (by omega) (by omega)
        · refine x_aload_n dX3_goesBy_90 rfl ?_
          refine k_people 0 rfl hL dX3_goesBy_91 q347 ?_
          refine x_iload_n dX3_goesBy_94 rfl ?_
          refine k_pald hL dX3_goesBy_95 (by omega) ?_
          refine x_aload_n dX3_goesBy_96 rfl ?_
          refine x_iload_n dX3_goesBy_97 rfl ?_
          obtain ⟨o2, M2, ⟨ho2, S2, hM2, hS2⟩, hC2⟩ := hB S U w i hK hT hSF hc61
          subst hM2
          refine x_V1i (P := fun r3 M3 => r3 = bcV tr i n rr nl nC w ∧ M3 = cR M S2 U β w) 3 dX3_goesBy_98 kG_X3_X3_bestCar kP_X3_bestCar (T := TX3) (N := 12) rfl (show β < fc_nx M by have := hL.1; omega) hL.sh0 (by omega) (by decide) (Nat.le_of_ble_eq_true rfl) ⟨o2, _, ⟨_, ho2, rfl, rfl⟩, hC2⟩ (fun r3 M3 h => ?_)
          obtain ⟨e1, e2⟩ := h
          subst e1
          subst e2
          have e6 : S2 β 6 = S β 6 := hS2 β 6 (by have := hK.1.2.2.1.2.2; omega) (by omega)
          have e7 : S2 β 7 = S β 7 := hS2 β 7 (by have := hK.1.2.2.1.2.2; omega) (by omega)
          have hK2 : KI g M S2 U π β f nC n rr nl ps w := ⟨hK.1.sf hS2, hK.2.1, hK.2.2.1, ⟨by rw [e6, e7]; exact hK.2.2.2.1.1, hK.2.2.2.1.2.1, by rw [e6]; exact hK.2.2.2.1.2.2⟩, hK.2.2.2.2⟩
          refine k_pput 4 hL dX3_goesBy_101 (by decide) q280 rfl (by omega) ?_
          refine x_iincN (n := 1) dX3_goesBy_104 (by decide) rfl (by decide) rfl ?_
          refine x_goto (tgt := 56) dX3_goesBy_107 (by decide) ?_
          rw [s2W, if_pos hc61, if_pos hc74, if_pos hc87, gcW_V]
          exact ih (i + 1) _ S2 U (KI_up hb hK2 hc61 (Or.inr rfl)) (TX_w (fun q hq => up_n (by have := hb.1; omega)) (TX_sf hL hK.1.1 hS2 hT)) (hSF.trans hS2) hUF (e6.trans h6) (by omega) (by omega)
set_option maxHeartbeats 1000000 in
theorem m_goesBy1 {n0 s0 : Nat} (hL : LT g M β) {n rr nl ps τ : Nat} {tr : Option (Nat → Int32)} (hb : Bd n f rr nC) (hB : ∀ (S9 : tT) (U : tU) (w : Nat → Int32) (i : Nat), KI g M S9 U π β f nC n rr nl ps w → TX g M S9 τ w rr nl → SF S S9 β → i < n → fc_CX g l yX3_bestCar cX3_bestCar 6 (some .int) 405 [.ref (fc_B g + β), .int (nI i)] (cR M S9 U β w) (bs_i M S9 U β (bcV tr i n rr nl nC w) w)) : ∀ (k i : Nat) (w : Nat → Int32), KI g M S U π β f nC n rr nl ps w → TX g M S τ w rr nl → i ≤ n → n < i + k → fc_X g l yX3_goesBy cX3_goesBy 2 (none) 406 n0 s0 (cR M S U β w) 2 [some (.ref (fc_B g + β)), some (.int (nI i))] [] (cq_v M S U β f (up (s3W (S β 6) ps n f nC (nC + 1) 0 (s2W tr n rr nl nC (n + 1) 0 (s1W n k i w))) 3 (s3W (S β 6) ps n f nC (nC + 1) 0 (s2W tr n rr nl nC (n + 1) 0 (s1W n k i w)) 3 + nI 1))) := by
  intro k
  induction k with
  | zero => intro i w hK hT h1 h2; omega
  | succ k ih =>
    intro i w hK hT h1 h2
    have hn := hb.1
    refine x_iload_n dX3_goesBy_2 rfl ?_
    refine x_aload_n dX3_goesBy_3 rfl ?_
    refine k_tget 2 hL dX3_goesBy_4 (by decide) q351 ?_
    refine x_top hK.2.1.1.2.2.1 ?_
    refine x_icmpN_ge (tgt := 54) dX3_goesBy_7 (by decide) (by omega) (by omega) (fun hc7 => ?_) (fun hc7 => ?_)
    · refine x_ic0 dX3_goesBy_54 ?_
      refine x_istore_n dX3_goesBy_55 (by decide) rfl ?_
      rw [s1W, if_neg (Nat.not_lt.mpr hc7)]
      exact m_goesBy2 hL hb hB (n + 1) 0 w S U hK hT SF.refl UF.refl rfl (by omega) (by omega)
    · refine x_aload_n dX3_goesBy_10 rfl ?_
      refine k_people 0 rfl hL dX3_goesBy_11 q347 ?_
      refine x_iload_n dX3_goesBy_14 rfl ?_
      refine k_pald hL dX3_goesBy_15 (by omega) ?_
      refine k_pget 3 hL dX3_goesBy_16 (by decide) q277 (by omega) ?_
      refine x_if_ne (tgt := 48) dX3_goesBy_19 (by decide) (fun hc19 => ?_) (fun hc19 => ?_)
      · refine x_iincN (n := 1) dX3_goesBy_48 (by decide) rfl (by decide) rfl ?_
        refine x_goto (tgt := 2) dX3_goesBy_51 (by decide) ?_
        rw [s1W, if_pos hc7, if_neg hc19]
        exact ih (i + 1) w hK hT (by omega) (by omega)
      · refine x_aload_n dX3_goesBy_22 rfl ?_
        refine k_people 0 rfl hL dX3_goesBy_23 q347 ?_
        refine x_iload_n dX3_goesBy_26 rfl ?_
        refine k_pald hL dX3_goesBy_27 (by omega) ?_
        refine k_pget 0 hL dX3_goesBy_28 (by decide) q268 (by omega) ?_
        refine x_aload_n dX3_goesBy_31 rfl ?_
        refine k_tget 3 hL dX3_goesBy_32 (by decide) q353 ?_
        refine x_icmp_ne (tgt := 48) dX3_goesBy_35 (by decide) (fun hc35 => ?_) (fun hc35 => ?_)
        · refine x_iincN (n := 1) dX3_goesBy_48 (by decide) rfl (by decide) rfl ?_
          refine x_goto (tgt := 2) dX3_goesBy_51 (by decide) ?_
          rw [s1W, if_pos hc7, if_pos hc19, if_neg hc35]
          exact ih (i + 1) w hK hT (by omega) (by omega)
        · refine x_aload_n dX3_goesBy_38 rfl ?_
          refine k_people 0 rfl hL dX3_goesBy_39 q347 ?_
          refine x_iload_n dX3_goesBy_42 rfl ?_
          refine k_pald hL dX3_goesBy_43 (by omega) ?_
          refine x_ic1 dX3_goesBy_44 ?_
          refine k_pput 3 hL dX3_goesBy_45 (by decide) q277 rfl (by omega) ?_
          refine x_iincN (n := 1) dX3_goesBy_48 (by decide) rfl (by decide) rfl ?_
          refine x_goto (tgt := 2) dX3_goesBy_51 (by decide) ?_
          rw [s1W, if_pos hc7, if_pos hc19, if_pos hc35]
          exact ih (i + 1) _ (KI_up hb hK hc7 (Or.inl rfl)) (TX_w (fun q hq => up_n (by have := hb.1; omega)) hT) (by omega) (by omega)
set_option maxHeartbeats 1000000 in
theorem d_goesBy (hL : LT g M β) {n rr nl ps τ : Nat} {tr : Option (Nat → Int32)} (hb : Bd n f rr nC) (hB : ∀ (S9 : tT) (U : tU) (w : Nat → Int32) (i : Nat), KI g M S9 U π β f nC n rr nl ps w → TX g M S9 τ w rr nl → SF S S9 β → i < n → fc_CX g l yX3_bestCar cX3_bestCar 6 (some .int) 405 [.ref (fc_B g + β), .int (nI i)] (cR M S9 U β w) (bs_i M S9 U β (bcV tr i n rr nl nC w) w)) (hK : KI g M S U π β f nC n rr nl ps w) (hT : TX g M S τ w rr nl) : fc_CX g l yX3_goesBy cX3_goesBy 2 (none) 406 [.ref (fc_B g + β)] (cR M S U β w) (cq_v M S U β f (secW tr (S β 6) ps n f rr nl nC w)) := by
  refine fc_enter (by decide) (Nat.le_of_ble_eq_true rfl) rfl ?_
  refine x_ic0 dX3_goesBy_0 ?_
  refine x_istore_n dX3_goesBy_1 (by decide) rfl ?_
  rw [secW]
  exact m_goesBy1 hL hb hB (n + 1) 0 w hK hT (by omega) (by omega)
end T99K

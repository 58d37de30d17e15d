set_option maxRecDepth 100000
section T99A
variable {g : fc_G} {l : Launch} {M : fc_M} {S : tT} {U : tU} {β : Nat} {w : Nat → Int32} {π f nC : Nat}
theorem k_V0qv {y : MethodName} {cc : ByteArray} {nL : Nat} {ret : Option FieldType} {d n0 s0 : Nat} {pc : Nat} {L : List (Option Value)} {st : List Value} {Q : Outcome → fc_M → Prop} {y2 : MethodName} {c2 : ByteArray} {n2 d2 i : Nat} {r2 : Option FieldType} {w2 : Nat → Int32} (hL : LT g M β) (hd : decode cc pc = .ok (.invokevirtual i, 3)) (hG : GoodIn lw_all (wsV y.cls i y2.cls y2 (ws_ y2 c2 n2 r2))) (hpar : kPar y2 0) (hcl : y2.cls = RX3) (hdd : d2 + 1 ≤ d) (hn2 : n2 ≤ 45) (hrest : (st.map fun v => v.category).sum ≤ 8) (hC : fc_CX g l y2 c2 n2 r2 d2 [.ref (fc_B g + β)] (cR M S U β w) (cq_v M S U β f w2)) (kk : ∀ S2 U2, FB U2 β f w2 → UF U U2 β → SF S S2 β → fc_X g l y cc nL ret d n0 s0 (cR M S2 U2 β w2) (pc + 3) L st Q) : fc_X g l y cc nL ret d n0 s0 (cR M S U β w) pc L (.ref (fc_B g + β) :: st) Q := by
  obtain ⟨o, M3, ⟨h1, S2, U2, h2, h3, h4, h5⟩, hc⟩ := hC
  subst h2
  exact x_V0v (P := fun M3 => M3 = cR M S2 U2 β w2) 3 hd hG hpar (T := TX3) (N := 12) (by rw [hcl]; rfl) (show β < fc_nx M by have := hL.1; omega) hL.sh0 hdd hn2 hrest ⟨o, _, ⟨h1, rfl⟩, hc⟩ (fun M3 h => by subst h; exact kk S2 U2 h3 h4 h5)
theorem k_V0qi {y : MethodName} {cc : ByteArray} {nL : Nat} {ret : Option FieldType} {d n0 s0 : Nat} {pc : Nat} {L : List (Option Value)} {st : List Value} {Q : Outcome → fc_M → Prop} {y2 : MethodName} {c2 : ByteArray} {n2 d2 i : Nat} {r2 : Option FieldType} {r : Int32} {w2 : Nat → Int32} (hL : LT g M β) (hd : decode cc pc = .ok (.invokevirtual i, 3)) (hG : GoodIn lw_all (wsV y.cls i y2.cls y2 (ws_ y2 c2 n2 r2))) (hpar : kPar y2 0) (hcl : y2.cls = RX3) (hdd : d2 + 1 ≤ d) (hn2 : n2 ≤ 45) (hrest : (st.map fun v => v.category).sum ≤ 8) (hC : fc_CX g l y2 c2 n2 r2 d2 [.ref (fc_B g + β)] (cR M S U β w) (cq_i M S U β f r w2)) (kk : ∀ S2 U2, FB U2 β f w2 → UF U U2 β → SF S S2 β → fc_X g l y cc nL ret d n0 s0 (cR M S2 U2 β w2) (pc + 3) L (.int r :: st) Q) : fc_X g l y cc nL ret d n0 s0 (cR M S U β w) pc L (.ref (fc_B g + β) :: st) Q := by
  obtain ⟨o, M3, ⟨h1, S2, U2, h2, h3, h4, h5⟩, hc⟩ := hC
  subst h2
  exact x_V0i (P := fun r3 M3 => r3 = r ∧ M3 = cR M S2 U2 β w2) 3 hd hG hpar (T := TX3) (N := 12) (by rw [hcl]; rfl) (show β < fc_nx M by have := hL.1; omega) hL.sh0 hdd hn2 hrest ⟨o, _, ⟨r, h1, rfl, rfl⟩, hc⟩ (fun r3 M3 h => by obtain ⟨e1, e2⟩ := h; subst e1; subst e2; exact kk S2 U2 h3 h4 h5)
theorem k_V1qv {y : MethodName} {cc : ByteArray} {nL : Nat} {ret : Option FieldType} {d n0 s0 : Nat} {pc : Nat} {L : List (Option Value)} {st : List Value} {Q : Outcome → fc_M → Prop} {y2 : MethodName} {c2 : ByteArray} {n2 d2 i : Nat} {r2 : Option FieldType} {a1 : Value} {w2 : Nat → Int32} (hL : LT g M β) (hd : decode cc pc = .ok (.invokevirtual i, 3)) (hG : GoodIn lw_all (wsV y.cls i y2.cls y2 (ws_ y2 c2 n2 r2))) (hpar : kPar y2 1) (hcl : y2.cls = RX3) (hdd : d2 + 1 ≤ d) (hn2 : n2 ≤ 45) (hrest : (st.map fun v => v.category).sum ≤ 8) (hC : fc_CX g l y2 c2 n2 r2 d2 [.ref (fc_B g + β), a1] (cR M S U β w) (cq_v M S U β f w2)) (kk : ∀ S2 U2, FB U2 β f w2 → UF U U2 β → SF S S2 β → fc_X g l y cc nL ret d n0 s0 (cR M S2 U2 β w2) (pc + 3) L st Q) : fc_X g l y cc nL ret d n0 s0 (cR M S U β w) pc L (a1 :: .ref (fc_B g + β) :: st) Q := by
  obtain ⟨o, M3, ⟨h1, S2, U2, h2, h3, h4, h5⟩, hc⟩ := hC
  subst h2
  exact x_V1v (P := fun M3 => M3 = cR M S2 U2 β w2) 3 hd hG hpar (T := TX3) (N := 12) (by rw [hcl]; rfl) (show β < fc_nx M by have := hL.1; omega) hL.sh0 hdd hn2 hrest ⟨o, _, ⟨h1, rfl⟩, hc⟩ (fun M3 h => by subst h; exact kk S2 U2 h3 h4 h5)
theorem k_V1qi {y : MethodName} {cc : ByteArray} {nL : Nat} {ret : Option FieldType} {d n0 s0 : Nat} {pc : Nat} {L : List (Option Value)} {st : List Value} {Q : Outcome → fc_M → Prop} {y2 : MethodName} {c2 : ByteArray} {n2 d2 i : Nat} {r2 : Option FieldType} {a1 : Value} {r : Int32} {w2 : Nat → Int32} (hL : LT g M β) (hd : decode cc pc = .ok (.invokevirtual i, 3)) (hG : GoodIn lw_all (wsV y.cls i y2.cls y2 (ws_ y2 c2 n2 r2))) (hpar : kPar y2 1) (hcl : y2.cls = RX3) (hdd : d2 + 1 ≤ d) (hn2 : n2 ≤ 45) (hrest : (st.map fun v => v.category).sum ≤ 8) (hC : fc_CX g l y2 c2 n2 r2 d2 [.ref (fc_B g + β), a1] (cR M S U β w) (cq_i M S U β f r w2)) (kk : ∀ S2 U2, FB U2 β f w2 → UF U U2 β → SF S S2 β → fc_X g l y cc nL ret d n0 s0 (cR M S2 U2 β w2) (pc + 3) L (.int r :: st) Q) : fc_X g l y cc nL ret d n0 s0 (cR M S U β w) pc L (a1 :: .ref (fc_B g + β) :: st) Q := by
  obtain ⟨o, M3, ⟨h1, S2, U2, h2, h3, h4, h5⟩, hc⟩ := hC
  subst h2
  exact x_V1i (P := fun r3 M3 => r3 = r ∧ M3 = cR M S2 U2 β w2) 3 hd hG hpar (T := TX3) (N := 12) (by rw [hcl]; rfl) (show β < fc_nx M by have := hL.1; omega) hL.sh0 hdd hn2 hrest ⟨o, _, ⟨r, h1, rfl, rfl⟩, hc⟩ (fun r3 M3 h => by obtain ⟨e1, e2⟩ := h; subst e1; subst e2; exact kk S2 U2 h3 h4 h5)
theorem kG_X3_X3_looks : GoodIn lw_all (wsV RX3 225 RX3 yX3_looks (ws_ yX3_looks cX3_looks 5 (none))) := lw_V q929 q931 qs27 q121 q932
theorem kP_X3_looks : kPar yX3_looks 1 := by decide +kernel
set_option maxHeartbeats 1000000 in
theorem d_carGoes (hL : LT g M β) (hO : PC g M S π β f nC w) {n : Nat} (hn : n ≤ 60) (hw : w 2 = nI n) {c ps : Nat} (hc : c < 4) (hcn : c < nC) (hCV : CV w c f) (hpj : S β 6 = -1 ∨ (S β 7 = nI ps ∧ ps < f)) (hps8 : ps < 80) (hJ : JK w (S β 6) ps n) (hFB : FB U β f w) (hPI : PI w n f) (hout : w (10 + 20 * c + 4) = 0 ∨ w (10 + 20 * c + 4) = nI 1) : fc_CX g l yX3_carGoes cX3_carGoes 3 (none) 5 [.ref (fc_B g + β), .int (nI c)] (cR M S U β w) (cq_v M S U β f (csW (S β 6) ps c n f w)) := by
  refine fc_enter (by decide) (Nat.le_of_ble_eq_true rfl) rfl ?_
  have hf80 := hO.2.2.2.2.2.1.2.2.2.1
  refine x_aload_n dX3_carGoes_0 rfl ?_
  refine k_cars 1 rfl hL dX3_carGoes_1 q349 ?_
  refine x_iload_n dX3_carGoes_4 rfl ?_
  refine k_cald hL dX3_carGoes_5 (by omega) ?_
  refine x_astore_n dX3_carGoes_6 (by decide) rfl ?_
  refine x_aload_n dX3_carGoes_7 rfl ?_
  refine k_cget 5 4 rfl hL dX3_carGoes_8 (by decide) q324 (by omega) ?_
  refine x_if_eq (tgt := 15) dX3_carGoes_11 (by decide) (fun hc11 => ?_) (fun hc11 => ?_)
  · refine x_aload_n dX3_carGoes_15 rfl ?_
    refine k_cget 2 2 rfl hL dX3_carGoes_16 (by decide) q315 (by omega) ?_
    refine x_if_eq (tgt := 61) dX3_carGoes_19 (by decide) (fun hc19 => ?_) (fun hc19 => ?_)
    · refine x_aload_n dX3_carGoes_61 rfl ?_
      refine x_iload_n dX3_carGoes_62 rfl ?_
      have hno : ¬ w (10 + 20 * c + 4) = nI 1 := by rw [hc11]; decide
      obtain ⟨⟨a, haf, ha⟩, hwy, hmv, -⟩ := hCV
      have e9 : csW (S β 6) ps c n f w = lkW (S β 6) ps c n a f w := by rw [csW, if_neg hno, if_pos hc19, flW, ha, nI_clamp (by have := hO.2.2.2.2.2.1.2.2.2.1; omega)]
      rw [e9]
      refine k_V1qv hL dX3_carGoes_63 kG_X3_X3_looks kP_X3_looks rfl (by omega) (by decide) (Nat.le_of_ble_eq_true rfl) (d_looks hL hO hn hw hc hcn ha haf hpj hps8 hJ hFB hPI hwy) (fun S2 U2 e3 e4 e5 => ?_)
      exact x_vret dX3_carGoes_66 rfl ⟨rfl, S2, U2, rfl, e3, e4, e5⟩
    · refine x_aload_n dX3_carGoes_22 rfl ?_
      refine x_dup dX3_carGoes_23 rfl ?_
      refine k_cget 3 3 rfl hL dX3_carGoes_24 (by decide) q318 (by omega) ?_
      refine x_ic1 dX3_carGoes_27 ?_
      refine x_isub dX3_carGoes_28 ?_
      refine k_cput 3 3 rfl hL dX3_carGoes_29 (by decide) q318 rfl (by omega) ?_
      refine x_aload_n dX3_carGoes_32 rfl ?_
      refine k_cget 3 3 rfl hL dX3_carGoes_33 (by decide) q318 (by omega) ?_
      refine x_top up_s ?_
      refine x_if_le (tgt := 40) dX3_carGoes_36 (by decide) (fun hc36 => ?_) (fun hc36 => ?_)
      · refine x_aload_n dX3_carGoes_40 rfl ?_
        have hno : ¬ w (10 + 20 * c + 4) = nI 1 := by rw [hc11]; decide
        obtain ⟨⟨a, haf, ha⟩, hwy, hmv, -⟩ := hCV
        refine k_cget 2 2 rfl hL dX3_carGoes_41 (by decide) q315 (by omega) ?_
        refine x_top (up_n (by omega)) ?_
        refine x_ic1 dX3_carGoes_44 ?_
        refine x_icmp_ne (tgt := 61) dX3_carGoes_45 (by decide) (fun hc45 => ?_) (fun hc45 => ?_)
        · refine x_aload_n dX3_carGoes_61 rfl ?_
          refine x_iload_n dX3_carGoes_62 rfl ?_
          have e9 : csW (S β 6) ps c n f w = lkW (S β 6) ps c n a f (up w (10 + 20 * c + 3) (w (10 + 20 * c + 3) - nI 1)) := by rw [csW, if_neg hno, if_neg hc19, if_neg (Int32.not_lt.mpr hc36), if_neg hc45, flW, ha, nI_clamp (by have := hO.2.2.2.2.2.1.2.2.2.1; omega)]
          rw [e9]
          refine k_V1qv hL dX3_carGoes_63 kG_X3_X3_looks kP_X3_looks rfl (by omega) (by decide) (Nat.le_of_ble_eq_true rfl) (d_looks hL (hO.fr (fun i hi => by rcases hi with hi | hi | ⟨c9, j9, e1, e2, hi⟩ <;> rw [up_n (by omega)])) hn (by rw [up_n (by omega)]; exact hw) hc hcn (by rw [up_n (by omega)]; exact ha) haf hpj hps8 (fun j e1 e2 => by rw [up_n (by omega)]; exact hJ j e1 e2) (FB_fr hFB (fun c9 hc9 q9 hq9 => by rw [up_n (by omega)])) (PI_fr hPI (fun p hp => ⟨by rw [up_n (by omega)], by rw [up_n (by omega)]⟩)) (by rw [up_n (by omega)]; exact hwy)) (fun S2 U2 e3 e4 e5 => ?_)
          exact x_vret dX3_carGoes_66 rfl ⟨rfl, S2, U2, rfl, e3, e4, e5⟩
        · refine x_aload_n dX3_carGoes_48 rfl ?_
          refine x_dup dX3_carGoes_49 rfl ?_
          refine k_cget 0 0 rfl hL dX3_carGoes_50 (by decide) q309 (by omega) ?_
          refine x_top (up_n (by omega)) ?_
          refine x_aload_n dX3_carGoes_53 rfl ?_
          refine k_cget 1 1 rfl hL dX3_carGoes_54 (by decide) q312 (by omega) ?_
          refine x_top (up_n (by omega)) ?_
          refine x_iadd dX3_carGoes_57 ?_
          refine k_cput 0 0 rfl hL dX3_carGoes_58 (by decide) q309 rfl (by omega) ?_
          refine x_aload_n dX3_carGoes_61 rfl ?_
          refine x_iload_n dX3_carGoes_62 rfl ?_
          obtain ⟨a2, haf, ha⟩ := hmv hc45
          have e9 : csW (S β 6) ps c n f w = lkW (S β 6) ps c n a2 f (up (up w (10 + 20 * c + 3) (w (10 + 20 * c + 3) - nI 1)) (10 + 20 * c + 0) (w (10 + 20 * c + 0) + w (10 + 20 * c + 1))) := by rw [csW, if_neg hno, if_neg hc19, if_neg (Int32.not_lt.mpr hc36), if_pos hc45, ha, nI_clamp (by have := hO.2.2.2.2.2.1.2.2.2.1; omega)]
          rw [e9]
          refine k_V1qv hL dX3_carGoes_63 kG_X3_X3_looks kP_X3_looks rfl (by omega) (by decide) (Nat.le_of_ble_eq_true rfl) (d_looks hL (hO.fr (fun i hi => by rcases hi with hi | hi | ⟨c9, j9, e1, e2, hi⟩ <;> rw [up_n (by omega), up_n (by omega)])) hn (by rw [up_n (by omega), up_n (by omega)]; exact hw) hc hcn (by rw [up_s]; exact ha) haf hpj hps8 (fun j e1 e2 => by rw [up_n (by omega), up_n (by omega)]; exact hJ j e1 e2) (FB_fr hFB (fun c9 hc9 q9 hq9 => by rw [up_n (by omega), up_n (by omega)])) (PI_fr hPI (fun p hp => ⟨by rw [up_n (by omega), up_n (by omega)], by rw [up_n (by omega), up_n (by omega)]⟩)) (by rw [up_n (by omega), up_n (by omega)]; exact hwy)) (fun S2 U2 e3 e4 e5 => ?_)
          exact x_vret dX3_carGoes_66 rfl ⟨rfl, S2, U2, rfl, e3, e4, e5⟩
      · have hno : ¬ w (10 + 20 * c + 4) = nI 1 := by rw [hc11]; decide
        have e9 : csW (S β 6) ps c n f w = up w (10 + 20 * c + 3) (w (10 + 20 * c + 3) - nI 1) := by rw [csW, if_neg hno, if_neg hc19, if_pos (Int32.not_le.mp hc36)]
        rw [e9]
        exact x_vret dX3_carGoes_39 rfl ⟨rfl, S, U, rfl, FB_fr hFB (fun c9 hc9 q9 hq9 => by rw [up_n (by omega)]), UF.refl, SF.refl⟩
  · have e9 : csW (S β 6) ps c n f w = w := by rw [csW, if_pos (hout.resolve_left hc11)]
    rw [e9]
    exact x_vret dX3_carGoes_14 rfl ⟨rfl, S, U, rfl, hFB, UF.refl, SF.refl⟩
end T99A

set_option maxRecDepth 100000
section T99ZZX
variable {g : fc_G} {l : Launch} {M M0 : fc_M} {S S0 : tT} {U : tU} {E : tEn} {q : tTk}
theorem kG_X0_X0_readsRule : GoodIn lw_all (wsV RX0 322 RX0 yX0_readsRule (ws_ yX0_readsRule cX0_readsRule 3 (Option.some (Jvm.ClassFile.FieldType.object "FourCars$Text")))) := lw_V q509 q511 qs1 q118 q512
theorem kP_X0_readsRule : kPar yX0_readsRule 0 := by decide +kernel
theorem kG_X0_X0_readsTower : GoodIn lw_all (wsV RX0 326 RX0 yX0_readsTower (ws_ yX0_readsTower cX0_readsTower 4 (Option.some (Jvm.ClassFile.FieldType.object "FourCars$Plan")))) := lw_V q814 q816 qs18 q118 q817
theorem kP_X0_readsTower : kPar yX0_readsTower 0 := by decide +kernel
/-- into a method with handlers -/
def fc_CWX (g : fc_G) (l : Launch) (y : MethodName) (ws : List Cond) (d : Nat) (av : List Value) (M : fc_M) (Q : Outcome → fc_M → Prop) : Prop := ∃ (o : Outcome) (M' : fc_M), Q o M' ∧ fc_Cw g l y ws d av M o M'
theorem fc_enterW {y : MethodName} {cc : ByteArray} {nL : Nat} {ret : Option FieldType} {hh : List (Nat × Nat × Nat × Nat)} {d : Nat} {Q : Outcome → fc_M → Prop} {av : List Value} (hy : plainName y.cls = true) (hlen : av.length ≤ nL) (hcat : av.all (fun v => v.category == 1) = true) (h : fc_X g l y cc nL ret d (fc_nx M) (fc_sl M) M 0 (av.map some ++ List.replicate (nL - av.length) none) [] Q) : fc_CWX g l y (wsW_ y cc nL ret hh) d av M Q := by
  obtain ⟨o, Mf, hQ, hb, hE⟩ := h
  refine ⟨o, Mf, hQ, hb, ?_⟩
  refine MetFree.of_bodyS (code := cc) (maxLocals := nL) (ret := ret) hy (fun args s m h hn => ?_) ?_
  · obtain ⟨m', meth, c, hn', h1, h2, h3, h4, -, h5, h6, -⟩ := Cond.codeWith_spec (atoms_spec (ws := wsW_ y cc nL ret hh) h _ List.mem_cons_self)
    cases hn.symm.trans hn'
    exact ⟨meth, c, h1, h2, h3, h4, h5, h6⟩
  refine fun p e s m args below meth c s₁ B hml hv _ => ?_
  have hh0 : s₁.heap = s.heap := by rw [B.state]; rfl
  suffices hW : W p l e (headSpec (wsW_ y cc nL ret hh) ({ frames := d, cells := fc_nx Mf - fc_nx M, slots := fc_sl Mf - fc_sl M, locals := 64 * d })).room s m args below meth c s.heap [] 0 0 (fc_MQ below (fc_Qc g o Mf) args s (fc_nx Mf - fc_nx M) (fc_sl Mf - fc_sl M) (fc_A g)) (entryFrame m args nL) by
    obtain ⟨t, a1, o', b1, b2, b3⟩ := hW s₁ hh0 (Stand.of_body B)
    exact ⟨t, o', a1, b1, b2, ⟨b3.1, b3.2⟩⟩
  obtain ⟨rfl, hR, henv⟩ := hv
  have hts := atoms_spec (ws := wsW_ y cc nL ret hh) B.pre
  have hts : ∀ w ∈ lw_all, w.before _ s = true := fun w h => hts w (List.mem_cons_of_mem _ h)
  have hsl : lg_sl av = av.map Slot.val := fc_slots av hcat
  have hwf := lv_entry av (n := nL) (by rw [hsl]; simpa using hlen)
  rw [lg_entry_eq]
  generalize hls : (lg_sl av ++ List.replicate (nL - (lg_sl av).length) Slot.unset).toArray = ls at hwf ⊢
  have k := hE (headSpec (wsW_ y cc nL ret hh) ({ frames := d, cells := fc_nx Mf - fc_nx M, slots := fc_sl Mf - fc_sl M, locals := 64 * d })).room p e s m av.toArray below meth c s.heap ls [] ⟨B.exec, B.bytes, hml, findClass_of_methodNamed B.named, B.returns, B.notSynchronized, hts, (name_of_methodNamed B.named B.method).1, henv, ⟨Nat.le_refl _, Nat.le_refl _, Nat.le_refl _, Nat.le_refl _⟩, hR.1, hR.2.1, B.named⟩ (Nat.le_refl _) (Nat.le_refl _) hR va_S.rf ⟨hwf.1, hwf.2.1, fun i v hi => ?_⟩
  · rw [Nat.sub_self, Nat.sub_self] at k
    exact k
  · rw [← hls, hsl]
    rcases Nat.lt_or_ge i av.length with q | q
    · rw [List.getElem?_append_left (by simpa using q), List.getElem?_map] at hi
      have : av[i]? = some v := by
        cases ha : av[i]? with
        | none => rw [ha] at hi; simp at hi
        | some w => rw [ha] at hi; simp at hi; rw [hi]
      rw [List.getElem?_toArray, List.getElem?_append_left (by simpa using q), List.getElem?_map, this]
      rfl
    · rw [List.getElem?_append_right (by simpa using q)] at hi
      have := List.mem_of_getElem? hi
      simp at this
abbrev txH : List (Nat × Nat × Nat × Nat) := [(10, 21, 97, 210), (28, 53, 97, 210), (60, 90, 97, 210), (10, 21, 123, 0), (28, 53, 123, 0), (60, 90, 123, 0), (97, 116, 123, 0), (123, 125, 123, 0)]
abbrev txW : List Cond := wsW_ yX0_text cX0_text 5 (some .int) txH
/-- what every text leaves of a fault -/
def fS (S : tT) (a b : Int32) : tT := tu (tu S 0 11 a) 0 12 b
set_option maxHeartbeats 2000000 in
theorem d_textB (hF : LF g M) {x : Int32} (hx : ¬ (nI 0 ≤ x ∧ x ≤ nI 3)) : fc_CWX g l yX0_text txW 41 [.ref (fc_B g + 0), .int x] (cl M S U) (fc_re (-1) (cl M (tu (fS S (nI 0) (-1)) 0 1 (nI 0)) U)) := by
  refine fc_enterW (by decide) (Nat.le_of_ble_eq_true rfl) rfl ?_
  refine x_aload_n dX0_text_0 rfl ?_
  refine x_ic0 dX0_text_1 ?_
  refine q_puti 0 11 dX0_text_2 (C := RX0) (T := TX0) (N := 30) rfl (by decide) q406 rfl rfl rfl (show 0 < fc_nx M by have := hF.1; omega) (hF.2.2 0 _ rfl) rfl ?_
  refine x_aload_n dX0_text_5 rfl ?_
  refine x_icm1 dX0_text_6 ?_
  refine q_puti 0 12 dX0_text_7 (C := RX0) (T := TX0) (N := 30) rfl (by decide) q407 rfl rfl rfl (show 0 < fc_nx M by have := hF.1; omega) (hF.2.2 0 _ rfl) rfl ?_
  refine x_iload_n dX0_text_10 rfl ?_
  refine x_ic0 dX0_text_11 ?_
  refine x_ic3 dX0_text_12 ?_
  refine k_S3i dX0_text_13 kG_X0_X0_isIn kP_X0_isIn (by omega) (by decide) (Nat.le_of_ble_eq_true rfl) d_isIn ?_
  refine x_ifB_ne (tgt := 28) dX0_text_16 (by decide) (fun hc16 => ?_) (fun hc16 => ?_)
  · exact absurd hc16 hx
  · refine x_icm1 dX0_text_19 ?_
    refine x_istore_n dX0_text_20 (by decide) rfl ?_
    refine x_aload_n dX0_text_21 rfl ?_
    refine x_ic0 dX0_text_22 ?_
    refine q_puti 0 1 dX0_text_23 (C := RX0) (T := TX0) (N := 30) rfl (by decide) q396 rfl rfl rfl (show 0 < fc_nx M by have := hF.1; omega) (hF.2.2 0 _ rfl) rfl ?_
    refine x_iload_n dX0_text_26 rfl ?_
    exact x_iret dX0_text_27 rfl rfl fc_re.of
def txR (g : fc_G) (M : fc_M) (S : tT) (U : tU) (r : Nat) (R : Except tEr (List tLn × tLs)) : Outcome → fc_M → Prop := match R with
  | .error e => fun o M2 => o = .returned (some (.int (-1))) ∧ ∃ M' S', M2 = cl M' (tu (fS S' e.1 (nI e.2)) 0 1 (nI 0)) U ∧ (gw M (fS S (nI 0) (-1)) M' S' ∧ fc_nx M' ≤ fc_nx M + 412 ∧ fc_sl M' ≤ fc_sl M + 1568)
  | .ok z => fun o M2 => o = .returned (some (.int (nI z.1.length))) ∧ ∃ (τ : Nat) (M' : fc_M) (S' : tT), M2 = cl (fc_put M' 6 r (.ref (fc_B g + τ))) (tu S' 0 1 (nI 0)) U ∧ (gw M (fS S (nI 0) (-1)) M' S' ∧ fc_nx M' ≤ fc_nx M + 412 ∧ fc_sl M' ≤ fc_sl M + 1568) ∧ RR g M' S' τ z.1 z.2 z.1.length ∧ fc_nx M ≤ τ
set_option maxHeartbeats 2000000 in
theorem b_tx97 {n0 s0 d x : Nat} {e : tEr} {Q : Outcome → fc_M → Prop} {x1 : Int32} (hF : LF g M) (hfl : fltO M S x e) (hQ : Q (.returned (some (.int (-1)))) (cl M (tu (fS S e.1 (nI e.2)) 0 1 (nI 0)) U)) : fc_X g l yX0_text cX0_text 5 (some .int) d n0 s0 (cl M S U) 97 [some (.ref (fc_B g + 0)), some (.int x1), none, none, none] [.ref (fc_B g + x)] Q := by
  refine x_astore_n dX0_text_97 (by decide) rfl ?_
  refine x_aload_n dX0_text_98 rfl ?_
  refine x_aload_n dX0_text_99 rfl ?_
  refine q_geti 7 6 dX0_text_100 (C := RX7) (T := TX7) (N := 8) rfl (by decide) q705 hfl.1 hfl.2.1 rfl hfl.2.2.1 ?_
  refine q_puti 0 11 dX0_text_103 (C := RX0) (T := TX0) (N := 30) rfl (by decide) q406 rfl rfl rfl (show 0 < fc_nx M by have := hF.1; omega) (hF.2.2 0 _ rfl) rfl ?_
  refine x_aload_n dX0_text_106 rfl ?_
  refine x_aload_n dX0_text_107 rfl ?_
  refine q_geti 7 7 dX0_text_108 (C := RX7) (T := TX7) (N := 8) rfl (by decide) q707 hfl.1 hfl.2.1 rfl ((if_neg (fun z => absurd z.2 (by decide))).trans hfl.2.2.2) ?_
  refine q_puti 0 12 dX0_text_111 (C := RX0) (T := TX0) (N := 30) rfl (by decide) q407 rfl rfl rfl (show 0 < fc_nx M by have := hF.1; omega) (hF.2.2 0 _ rfl) rfl ?_
  refine x_icm1 dX0_text_114 ?_
  refine x_istore_n dX0_text_115 (by decide) rfl ?_
  refine x_aload_n dX0_text_116 rfl ?_
  refine x_ic0 dX0_text_117 ?_
  refine q_puti 0 1 dX0_text_118 (C := RX0) (T := TX0) (N := 30) rfl (by decide) q396 rfl rfl rfl (show 0 < fc_nx M by have := hF.1; omega) (hF.2.2 0 _ rfl) rfl ?_
  refine x_iload_n dX0_text_121 rfl ?_
  exact x_iret dX0_text_122 rfl rfl hQ
set_option maxHeartbeats 2000000 in
theorem d_textR (hF : LF g M) (hW : WD g M) (hT : tpR S E.2.1 E.2.2) {r : Nat} (hr : r < 3) (hE : ¬ E.1 = nI 3) {v0 : Int32} : fc_CWX g l yX0_text txW 41 [.ref (fc_B g + 0), .int (nI r)] (cl M S U) (txR g M S U r (pRL E 401 (nxK E.1 E.2.1 E.2.2 0 v0) [] [])) := by
  refine fc_enterW (by decide) (Nat.le_of_ble_eq_true rfl) rfl ?_
  refine x_aload_n dX0_text_0 rfl ?_
  refine x_ic0 dX0_text_1 ?_
  refine q_puti 0 11 dX0_text_2 (C := RX0) (T := TX0) (N := 30) rfl (by decide) q406 rfl rfl rfl (show 0 < fc_nx M by have := hF.1; omega) (hF.2.2 0 _ rfl) rfl ?_
  refine x_aload_n dX0_text_5 rfl ?_
  refine x_icm1 dX0_text_6 ?_
  refine q_puti 0 12 dX0_text_7 (C := RX0) (T := TX0) (N := 30) rfl (by decide) q407 rfl rfl rfl (show 0 < fc_nx M by have := hF.1; omega) (hF.2.2 0 _ rfl) rfl ?_
  refine x_iload_n dX0_text_10 rfl ?_
  refine x_ic0 dX0_text_11 ?_
  refine x_ic3 dX0_text_12 ?_
  refine k_S3i dX0_text_13 kG_X0_X0_isIn kP_X0_isIn (by omega) (by decide) (Nat.le_of_ble_eq_true rfl) d_isIn ?_
  refine x_ifB_ne (tgt := 28) dX0_text_16 (by decide) (fun hc16 => ?_) (fun hc16 => ?_)
  · refine x_iload_n dX0_text_28 rfl ?_
    refine x_ic3 dX0_text_29 ?_
    refine x_icmpN_ge (tgt := 60) dX0_text_30 (by decide) (by omega) (by omega) (fun hc30 => ?_) (fun hc30 => ?_)
    · omega
    · refine x_aload_n dX0_text_33 rfl ?_
      refine q_getr 0 13 dX0_text_34 (C := RX0) (T := TX0) (N := 30) rfl (by decide) q408 (show 0 < fc_nx M by have := hF.1; omega) (hF.2.2 0 _ rfl) rfl (hF.2.1 13 _ rfl) ?_
      refine x_iload_n dX0_text_37 rfl ?_
      refine x_aload_n dX0_text_38 rfl ?_
      have hT1 : tpR (fS S (nI 0) (-1)) E.2.1 E.2.2 := ⟨hT.1, hT.2.1, hT.2.2⟩
      obtain ⟨o9, M9, h9c, hC9⟩ := d_readsRule (l := l) (U := U) (v0 := v0) hF hW hT1 hE
      generalize hRR : pRL E 401 (nxK E.1 E.2.1 E.2.2 0 v0) [] [] = RR9 at h9c ⊢
      cases RR9 with
      | error e =>
        obtain ⟨x, M1, S1, rfl, rfl, h1, h2⟩ := h9c
        have hF1 := LF_gw hF h1.1
        refine fc_callVc (As := []) (pre := [(10, 21, 97, 210)]) (post := [(60, 90, 97, 210), (10, 21, 123, 0), (28, 53, 123, 0), (60, 90, 123, 0), (97, 116, 123, 0), (123, 125, 123, 0)]) (sp := 28) (ep := 53) (hp := 97) (ct := 210) 0 dX0_text_39 kG_X0_X0_readsRule kP_X0_readsRule (Tf := TX0) (N := 30) rfl (show 0 < fc_nx M by have := hF.1; omega) (hF.2.2 0 _ rfl) (by omega) (by decide) (Nat.le_of_ble_eq_true rfl) rfl q507 (fun z hz => by simp only [List.mem_cons, List.not_mem_nil, or_false] at hz; subst hz; decide) (by decide) (by decide) q508 hC9 h2.1 h2.2.1 ?_
        exact b_tx97 hF1 h2 ⟨rfl, M1, S1, rfl, h1⟩
      | ok z =>
        obtain ⟨τ, M1, S1, ho9, rfl, h1, h2, h3⟩ := h9c
        have hF1 := LF_gw hF h1.1
        refine fc_callV (As := []) 0 dX0_text_39 kG_X0_X0_readsRule kP_X0_readsRule (T := TX0) (N := 30) rfl (show 0 < fc_nx M by have := hF.1; omega) (hF.2.2 0 _ rfl) (by omega) (by decide) (Nat.le_of_ble_eq_true rfl) rfl hC9 ho9 ?_
        have h6 : fc_sh M1 6 = .inr (.object "FourCars$Text", 3) := hF1.2.2 6 _ rfl
        refine x_aast dX0_text_42 (show 6 < fc_nx M1 by have := hF1.1; omega) h6 (by decide) hr (Nat.lt_of_lt_of_le (Nat.lt_add_of_pos_right (k := 4) (by decide)) h2.1.1) h2.1.2.1 (r := (RX1, TX1, 4)) rfl (Or.inl rfl) ?_
        rw [cl_putr (by rw [h6]; rfl)]
        have hF2 := LF_pt (x := 6) (k := r) (v := .ref (fc_B g + τ)) hF1 (by decide)
        refine x_aload_n dX0_text_43 rfl ?_
        refine q_getr 0 13 dX0_text_44 (C := RX0) (T := TX0) (N := 30) rfl (by decide) q408 (show 0 < fc_nx M1 by have := hF1.1; omega) (hF2.2.2 0 _ rfl) rfl (hF2.2.1 13 _ rfl) ?_
        refine x_iload_n dX0_text_47 rfl ?_
        refine x_aald dX0_text_48 (show 6 < fc_nx M1 by have := hF1.1; omega) h6 rfl (by decide) hr ((cl_r (by rw [hF2.2.2 6 _ rfl]; rfl)).trans ct_ps) ?_
        refine q_geti 1 3 dX0_text_49 (C := RX1) (T := TX1) (N := 4) rfl (by decide) q190 (Nat.lt_of_lt_of_le (Nat.lt_add_of_pos_right (k := 4) (by decide)) h2.1.1) h2.1.2.1 rfl h2.2.2.1.1 ?_
        refine x_istore_n dX0_text_52 (by decide) rfl ?_
        refine x_aload_n dX0_text_53 rfl ?_
        refine x_ic0 dX0_text_54 ?_
        refine q_puti 0 1 dX0_text_55 (C := RX0) (T := TX0) (N := 30) rfl (by decide) q396 rfl rfl rfl (show 0 < fc_nx M1 by have := hF1.1; omega) (hF2.2.2 0 _ rfl) rfl ?_
        refine x_iload_n dX0_text_58 rfl ?_
        exact x_iret dX0_text_59 rfl rfl ⟨rfl, τ, M1, S1, rfl, h1, h2, h3⟩
  · exact absurd ⟨(nI_leI (by decide) (by omega)).mpr (Nat.zero_le r), (nI_leI (by omega) (by decide)).mpr (by omega)⟩ hc16
end T99ZZX

set_option maxRecDepth 100000
section T99ZZH
variable {g : fc_G} {l : Launch} {M M0 : fc_M} {S S0 : tT} {U : tU} {E : tEn} {q : tTk}
theorem kda_8 : ∀ k, kdO (.inl 8) k = 1 → defaultValue (fcTy 8 k) = .int 0 := fun k hk => match k, hk with

  | k + 0, hk => by first | rfl | cases hk
theorem kdb_8 : ∀ k, kdO (.inl 8) k ≠ 2 := fun k => match k with

  | k + 0 => by show (1 : Nat) ≠ 2; decide
theorem kda_9 : ∀ k, kdO (.inl 9) k = 1 → defaultValue (fcTy 9 k) = .int 0 := fun k hk => match k, hk with

  | k + 0, hk => by first | rfl | cases hk
theorem kdb_9 : ∀ k, kdO (.inl 9) k ≠ 2 := fun k => match k with

  | k + 0 => by show (1 : Nat) ≠ 2; decide
theorem kda_10 : ∀ k, kdO (.inl 10) k = 1 → defaultValue (fcTy 10 k) = .int 0 := fun k hk => match k, hk with
  | 0, hk => by first | rfl | cases hk
  | 1, hk => by first | rfl | cases hk
  | k + 2, hk => by first | rfl | cases hk
theorem kdb_10 : ∀ k, kdO (.inl 10) k ≠ 2 := fun k => match k with
  | 0 => by decide
  | 1 => by decide
  | k + 2 => by show (0 : Nat) ≠ 2; decide
theorem kda_11 : ∀ k, kdO (.inl 11) k = 1 → defaultValue (fcTy 11 k) = .int 0 := fun k hk => match k, hk with

  | k + 0, hk => by first | rfl | cases hk
theorem kdb_11 : ∀ k, kdO (.inl 11) k ≠ 2 := fun k => match k with

  | k + 0 => by show (0 : Nat) ≠ 2; decide
theorem sh_newn {sh : fc_Sh} {N a : Nat} {f : Nat → Value} (h : a ≠ fc_nx M) : fc_sh (fc_new M sh N f) a = fc_sh M a := if_neg h
theorem ct_newn {sh : fc_Sh} {N a k : Nat} {f : Nat → Value} (h : a ≠ fc_nx M) : fc_ct (fc_new M sh N f) a k = fc_ct M a k := if_neg h
theorem rdP_k {p dp x : Nat} {R : tRs} {r : tTk × tLs} {M' : fc_M} {S' : tT} (h : R = .ok r) (h1 : jw M S p 0 M' S' r.1.1) (h2 : ctk g M' S' E r.1) (h3 : S' 0 10 = nI dp) (h4 : tmI g M' S' r.2.length x r.2) : rdP g M S U E p dp R (.returned (some (.ref (fc_B g + x)))) (cl M' S' U) := by
  rw [h]; exact ⟨x, M', S', rfl, rfl, h1, h2, h3, h4⟩
theorem rdP_e {p dp x : Nat} {R : tRs} {e : Int32 × Nat} {M' : fc_M} {S' : tT} (h : R = .error e) (h1 : je M S p M' S' e.2) (h2 : fltO M' S' x e) : rdP g M S U E p dp R (.threw (fc_B g + x)) (cl M' S' U) := by
  rw [h]; exact ⟨x, M', S', rfl, rfl, h1, h2⟩
theorem k_P {nm ds : String} {cc : ByteArray} {nL : Nat} {ret : Option FieldType} {d n0 s0 : Nat} {pc : Nat} {L : List (Option Value)} {st : List Value} {Q : Outcome → fc_M → Prop} {i : Nat} {y2 : MethodName} {c2 : ByteArray} {n2 d2 p dp : Nat} {r2 : Option FieldType} {R : tRs} (hF : LF g M) (hq : Cond.code ⟨"FourCars", nm, ds⟩ cc nL ret ∈ lw_all) (hd : decode cc pc = .ok (.invokevirtual i, 3)) (hG : GoodIn lw_all (wsV "FourCars" i y2.cls y2 (ws_ y2 c2 n2 r2))) (hpar : kPar y2 0) (hcl : y2.cls = RX0) (hdd : d2 + 1 ≤ d) (hn2 : n2 ≤ 45) (hrest : (st.map fun v => v.category).sum ≤ 8) (hC : fc_CX g l y2 c2 n2 r2 d2 [.ref (fc_B g + 0)] (cl M S U) (rdP g M S U E p dp R))
    (k1 : ∀ r x M' S', R = .ok r → jw M S p 0 M' S' r.1.1 → ctk g M' S' E r.1 → S' 0 10 = nI dp → tmI g M' S' r.2.length x r.2 → fc_X g l ⟨"FourCars", nm, ds⟩ cc nL ret d n0 s0 (cl M' S' U) (pc + 3) L (.ref (fc_B g + x) :: st) Q) (k2 : ∀ e x M' S', R = .error e → je M S p M' S' e.2 → fltO M' S' x e → Q (.threw (fc_B g + x)) (cl M' S' U)) : fc_X g l ⟨"FourCars", nm, ds⟩ cc nL ret d n0 s0 (cl M S U) pc L (.ref (fc_B g + 0) :: st) Q := by
  obtain ⟨o, M3, h, hC2⟩ := hC
  cases R with
  | error e =>
    obtain ⟨x, M', S', rfl, rfl, h1, h2⟩ := h
    exact fc_callVt (As := []) 0 hd hG hpar (Tf := TX0) (N := 30) (by rw [hcl]; rfl) (show 0 < fc_nx M by have := hF.1; omega) (hF.2.2 0 _ rfl) hdd hn2 hrest rfl hq hC2 (k2 e x M' S' rfl h1 h2)
  | ok r =>
    obtain ⟨x, M', S', ho, rfl, h1, h2, h3, h4⟩ := h
    exact fc_callV (As := []) 0 hd hG hpar (T := TX0) (N := 30) (by rw [hcl]; rfl) (show 0 < fc_nx M by have := hF.1; omega) (hF.2.2 0 _ rfl) hdd hn2 hrest rfl hC2 ho (k1 r x M' S' rfl h1 h2 h3 h4)
theorem isSn_47 {s : Nat} (h : s = 47 ∨ isSn s) : narrow .char (.int (nI s)) = .int (nI s) ∧ fits .char (.int (nI s)) = true := by
  rcases h with h | h | h | h | h | h | h | h | h <;> subst h <;> exact ⟨by decide, by decide⟩
theorem tmI_mk {M1 M3 : fc_M} {S1 S3 : tT} {a x c : Nat} {pa pb ps : tLs} {s : Nat} {fv : Nat → Value} (h0 : fc_sh M1 0 = .inl 0) (hA : tmI g M1 S1 pa.length a pa) (hx : x = fc_nx M1) (hg : gw (fc_new M1 (.inl 10) 3 fv) (tz0 S1 (fc_nx M1)) M3 S3) (hf : fv 1 = .null) (h1 : 1 ≤ fc_nx M1) (hB : tmI g M3 S3 pb.length c pb) (hps : (s = 47 ∧ ∃ v, ¬ v = 0 ∧ pb = [(nI 0, v)] ∧ ps = pa ++ [(nI 16, v)]) ∨ (isSn s ∧ ps = pa ++ pb ++ [(nI (sgH s), nI 0)])) : tmI g (fc_put (fc_put M3 x 1 (.ref (fc_B g + a))) x 2 (.ref (fc_B g + c))) (tu S3 x 0 (nI s)) ps.length x ps := by
  subst hx
  have hlt : fc_nx M1 < fc_nx (fc_new M1 (.inl 10) 3 fv) := Nat.lt_succ_self _
  have e0 := hg.2.2.1 (fc_nx M1) hlt
  have hsh : fc_sh M3 (fc_nx M1) = .inl 10 := e0.1.trans sh_new
  have hct : fc_ct M3 (fc_nx M1) 1 = .null := (e0.2 1 (fun z => by omega)).trans (ct_new.trans hf)
  have hA3 : tmI g M3 S3 pa.length a pa := tmI_gw ((sh_newn (by omega)).trans h0) hg _ _ _ (tmI_gw h0 gw.new _ _ _ hA)
  have p1 := tmI_pos hA
  have p2 := tmI_pos hB
  have hK : ∃ K, ps.length = K + 1 ∧ pa.length ≤ K ∧ pb.length ≤ K := by
    rcases hps with ⟨-, v, -, e1, e2⟩ | ⟨-, e2⟩
    · exact ⟨pa.length, by rw [e2]; simp, Nat.le_refl _, by rw [e1]; exact p1⟩
    · exact ⟨pa.length + pb.length, by rw [e2]; simp; omega, by omega, by omega⟩
  obtain ⟨K, hK0, hK1, hK2⟩ := hK
  rw [hK0]
  refine ⟨Nat.lt_of_lt_of_le hlt hg.1, Or.inr (Or.inr (Or.inr ⟨hsh, a, pa, c, pb, s, ?_, ct_ps, tu_at, tmI_two hsh hct _ _ _ (tmI_mono _ _ _ _ hK1 hA3), tmI_two hsh hct _ _ _ (tmI_mono _ _ _ _ hK2 hB), hps⟩))⟩
  exact (ct_pn (fun z => absurd z.2 (by decide))).trans ct_ps
/-- a Two is made: its second part is read -/
theorem x_two {nm ds : String} {cc : ByteArray} {nL : Nat} {ret : Option FieldType} {d n0 s0 : Nat} {pc : Nat} {L : List (Option Value)} {st : List Value} {Q : Outcome → fc_M → Prop} {i : Nat} {y2 : MethodName} {c2 : ByteArray} {n2 d2 n4 p0 dp a s : Nat} {pa : tLs} {r2 : Option FieldType} {R : tRs} (hF : LF g M) (hW : WD g M) (hk : ctk g M S E q) (h10 : S 0 10 = nI dp) (hj : jw M0 S0 p0 1 M S q.1) (hA : tmI g M S pa.length a pa) (hs : s = 47 ∨ isSn s) (hL0 : L[0]? = some (some (.ref (fc_B g + 0)))) (hL1 : L[1]? = some (some (.ref (fc_B g + a))))
    (d0 : decode cc pc = .ok (.new 237, 3)) (d3 : decode cc (pc + 3) = .ok (.dup, 1)) (d4 : ∀ {M : fc_M} {st : List Value}, fc_X g l ⟨"FourCars", nm, ds⟩ cc nL ret d n0 s0 M (pc + 3 + 1 + n4) L (.int (nI s) :: st) Q → fc_X g l ⟨"FourCars", nm, ds⟩ cc nL ret d n0 s0 M (pc + 3 + 1) L st Q) (d5 : decode cc (pc + 3 + 1 + n4) = .ok (.aload_n 1, 1)) (d6 : decode cc (pc + 3 + 1 + n4 + 1) = .ok (.aload_n 0, 1)) (d7 : decode cc (pc + 3 + 1 + n4 + 1 + 1) = .ok (.invokevirtual i, 3)) (d10 : decode cc (pc + 3 + 1 + n4 + 1 + 1 + 3) = .ok (.invokespecial 239, 3))
    (hq : Cond.code ⟨"FourCars", nm, ds⟩ cc nL ret ∈ lw_all) (hG : GoodIn lw_all (wsV "FourCars" i y2.cls y2 (ws_ y2 c2 n2 r2))) (hpar : kPar y2 0) (hcl : y2.cls = RX0) (hdd : d2 + 1 ≤ d) (hd4 : 3 ≤ d) (hn2 : n2 ≤ 45) (hrest : (st.map fun v => v.category).sum ≤ 4)
    (hC : ∀ M S, LF g M → WD g M → ctk g M S E q → S 0 10 = nI dp → fc_CX g l y2 c2 n2 r2 d2 [.ref (fc_B g + 0)] (cl M S U) (rdP g M S U E q.1 dp R))
    (k1 : ∀ r x M' S', R = .ok r → jw M0 S0 p0 0 M' S' r.1.1 → ctk g M' S' E r.1 → S' 0 10 = nI dp → (∀ ps, ((s = 47 ∧ ∃ v, ¬ v = 0 ∧ r.2 = [(nI 0, v)] ∧ ps = pa ++ [(nI 16, v)]) ∨ (isSn s ∧ ps = pa ++ r.2 ++ [(nI (sgH s), nI 0)])) → tmI g M' S' ps.length x ps) → fc_X g l ⟨"FourCars", nm, ds⟩ cc nL ret d n0 s0 (cl M' S' U) (pc + 3 + 1 + n4 + 1 + 1 + 3 + 3) L (.ref (fc_B g + x) :: st) Q)
    (k2 : ∀ e x M' S', R = .error e → je M0 S0 p0 M' S' e.2 → fltO M' S' x e → Q (.threw (fc_B g + x)) (cl M' S' U)) : fc_X g l ⟨"FourCars", nm, ds⟩ cc nL ret d n0 s0 (cl M S U) pc L st Q := by
  have h0 := hF.1
  have hg := gw.new (M := M) (S := S) (sh := .inl 10) (N := 3) (fv := fun k => defaultValue (fcTy 10 k))
  refine x_newC 10 d0 (C := RX11) (T := TX11) (N := 3) rfl q764 q765 q139 kda_10 kdb_10 ?_
  refine x_dup d3 rfl ?_
  refine d4 ?_
  refine x_aload_n d5 hL1 ?_
  refine x_aload_n d6 hL0 ?_
  have hj2 := jw.new (sh := .inl 10) (fv := fun k => defaultValue (fcTy 10 k)) hj (Nat.le_refl 3)
  have hlt : fc_nx M < fc_nx (fc_new M (.inl 10) 3 (fun k => defaultValue (fcTy 10 k))) := Nat.lt_succ_self _
  refine k_P (LF_gw hF hg) hq d7 hG hpar hcl hdd hn2 (by simp only [List.map_cons, List.sum_cons]; show 1 + (1 + (1 + (1 + _))) ≤ 8; omega) (hC _ _ (LF_gw hF hg) (WD_gw hF hW hg) (ctk_sm hk (ct_newn (by omega)) (fun c k hc _ => tz0_lt (by omega))) ((tz0_lt (by omega)).trans h10)) (fun r x M3 S3 hr hj3 hk3 h3 ht3 => ?_) (fun e x M3 S3 hr hj3 hf => k2 e x M3 S3 hr (hj2.tre hj3) hf)
  have hx3 : fc_sh M3 (fc_nx M) = .inl 10 := (hj3.1.2.2.1 _ hlt).1.trans sh_new
  have hge : fc_nx M0 ≤ fc_nx M := hj.1.1
  refine x_I3 d10 q768 q139 q766 q767 rfl kP_X11_init (by omega) (by decide) (by simp only [List.map_cons, List.sum_cons]; show 1 + _ ≤ 8; omega) (d_iTwo (Nat.lt_of_lt_of_le hlt hj3.1.1) hx3 (isSn_47 hs).1 (isSn_47 hs).2) ?_
  exact k1 r _ _ _ hr (((hj2.tr hj3).put hge).put hge |>.tux hge) (ctk_sm hk3 ((ct_pn (fun z => by omega)).trans (ct_pn (fun z => by omega))) (fun c k hc _ => if_neg (fun z => by omega))) ((if_neg (fun z => by omega)).trans h3) (fun ps hps => tmI_mk (hF.2.2 0 _ rfl) hA rfl hj3.1 rfl (by omega) ht3 hps)
theorem ctk_sv (hk : ctk g M S E q) {c : Nat} (hc : 40 ≤ c ∧ c ≤ 62) (h : q.2.2.1 = nI (100 + c)) : S 0 9 = nI c := by
  obtain ⟨-, -, κ, -, hR⟩ := hk
  exact ((tokR_sg hR hc).mpr h).2
theorem ctk_nv (hk : ctk g M S E q) (h : q.2.2.1 = nI 2) : S 0 9 = q.2.2.2 := by
  obtain ⟨-, -, κ, -, hR⟩ := hk
  exact tokR_val hR h
theorem ctk_8 (hk : ctk g M S E q) : S 0 8 = nI q.1 := by
  obtain ⟨-, -, κ, hA, -⟩ := hk
  exact hA.2.2.1
def tsP (g : fc_G) (M : fc_M) (S : tT) (U : tU) (E : tEn) (q : tTk) (c : Nat) : Outcome → fc_M → Prop := fun o M2 => (q.2.2.1 = nI (100 + c) ∧ o = .returned none ∧ ∃ M' S', M2 = cl M' S' U ∧ jw M S q.1 1 M' S' (nxt E q).1 ∧ ctk g M' S' E (nxt E q) ∧ S' 0 10 = S 0 10) ∨ (¬ q.2.2.1 = nI (100 + c) ∧ rdE g M S U q.1 (nI 1, q.1) o M2)
set_option maxHeartbeats 1000000 in
theorem d_takesSign (hF : LF g M) (hW : WD g M) (hk : ctk g M S E q) {c : Nat} (hc : 40 ≤ c ∧ c ≤ 62) : fc_CX g l yX0_takesSign cX0_takesSign 2 (none) 8 [.ref (fc_B g + 0), .int (nI c)] (cl M S U) (tsP g M S U E q c) := by
  refine fc_enter (by decide) (Nat.le_of_ble_eq_true rfl) rfl ?_
  refine x_aload_n dX0_takesSign_0 rfl ?_
  refine x_aload_n dX0_takesSign_1 rfl ?_
  refine x_iload_n dX0_takesSign_2 rfl ?_
  refine k_V1iF hF dX0_takesSign_3 kG_X0_X0_isSign kP_X0_isSign rfl (by omega) (by decide) (Nat.le_of_ble_eq_true rfl) (c_sign hF hk hc) ?_
  refine k_must hF hk q813 dX0_takesSign_6 kG_X0_X0_must (by omega) (Nat.le_of_ble_eq_true rfl) (fun hP => ?_) (fun hP x M2 S2 h1 h2 => Or.inr ⟨hP, x, M2, S2, rfl, rfl, h1, h2⟩)
  refine x_aload_n dX0_takesSign_9 rfl ?_
  refine k_next hF hW hk (fun z => absurd ((nI_eq (by omega) (by decide)).mp (hP.symm.trans z)) (by omega)) dX0_takesSign_10 kG_X0_X0_readNext (by omega) (Nat.le_of_ble_eq_true rfl) (fun M1 S1 hj hk1 h10 => ?_)
  exact x_vret dX0_takesSign_13 rfl (Or.inl ⟨hP, rfl, M1, S1, rfl, hj, hk1, h10⟩)
set_option maxHeartbeats 1000000 in
theorem d_unit (hF : LF g M) (hW : WD g M) (hk : ctk g M S E q) (hE : ¬ E.1 = nI 3) {dp : Nat} (h10 : S 0 10 = nI dp) : fc_CX g l yX0_unit cX0_unit 2 (Option.some (Jvm.ClassFile.FieldType.object "FourCars$Term")) 8 [.ref (fc_B g + 0)] (cl M S U) (rdP g M S U E q.1 dp (pUn E q)) := by
  refine fc_enter (by decide) (Nat.le_of_ble_eq_true rfl) rfl ?_
  obtain ⟨hT, hV, κ, hA, hR⟩ := id hk
  refine x_aload_n dX0_unit_0 rfl ?_
  refine q_getr 0 6 dX0_unit_1 (C := RX0) (T := TX0) (N := 30) rfl (by decide) q401 (show 0 < fc_nx M by have := hF.1; omega) (hF.2.2 0 _ rfl) rfl hA.1 ?_
  refine x_tok 3 dX0_unit_4 (by decide) rfl q593 ?_
  refine x_acmpT_ne (tgt := 28) dX0_unit_7 (by decide) hA.2.1 (by decide) (fun hκ => ?_) (fun hκ => ?_)
  · refine x_aload_n dX0_unit_28 rfl ?_
    refine x_aload_n dX0_unit_29 rfl ?_
    refine q_getr 0 4 dX0_unit_30 (C := RX0) (T := TX0) (N := 30) rfl (by decide) q399 (show 0 < fc_nx M by have := hF.1; omega) (hF.2.2 0 _ rfl) rfl (hF.2.1 4 _ rfl) ?_
    refine k_word (r := 4) (N := 10) (c0 := 41) (ix := asI) hF hk (Or.inl ⟨rfl, hE⟩) as_tb (by decide) (by decide) (show 4 < fc_nx M by have := hF.1; omega) (hF.2.2 4 _ rfl) (fun i hi => ⟨by unfold asI; split <;> omega, hW.2.2.1 i hi⟩) dX0_unit_33 kG_X0_X0_wordOf (by omega) (Nat.le_of_ble_eq_true rfl) (fun k hk10 hkc => ?_) (fun hno => ?_)
    · have hc2 : ¬ q.2.2.1 = nI 2 := fun z => absurd ((nI_eq (by omega) (by decide)).mp (hkc.symm.trans z)) (by omega)
      have hnm : isNm q.2.2.1 := by rw [hkc]; exact ⟨(nI_leI (by decide) (by omega)).mpr (by omega), (nI_leI (by omega) (by decide)).mpr (by omega)⟩
      refine x_istore_n dX0_unit_36 (by decide) rfl ?_
      refine x_aload_n dX0_unit_37 rfl ?_
      refine x_iload_n dX0_unit_38 rfl ?_
      refine x_icm1 dX0_unit_39 ?_
      refine x_icmp_eq (tgt := 47) dX0_unit_40 (by decide) (fun hc40 => ?_) (fun hc40 => ?_)
      · exact absurd hc40 (bO_ne (by omega))
      · refine x_ic1 dX0_unit_43 ?_
        refine x_goto (tgt := 48) dX0_unit_44 (by decide) ?_
        rw [show nI 1 = bI True by decide]
        refine k_must hF ⟨hT, hV, κ, hA, hR⟩ q736 dX0_unit_48 kG_X0_X0_must (by omega) (Nat.le_of_ble_eq_true rfl) (fun _ => ?_) (fun z => absurd trivial z)
        refine x_aload_n dX0_unit_51 rfl ?_
        refine k_next hF hW hk (fun z => absurd ((nI_eq (by omega) (by decide)).mp (hkc.symm.trans z)) (by omega)) dX0_unit_52 kG_X0_X0_readNext (by omega) (Nat.le_of_ble_eq_true rfl) (fun M1 S1 hj hk1 h10b => ?_)
        refine x_newC 9 dX0_unit_55 (C := RX10) (T := TX10) (N := 1) rfl q750 q751 q138 kda_9 kdb_9 ?_
        refine x_dup dX0_unit_58 rfl ?_
        refine x_iload_n dX0_unit_59 rfl ?_
        refine x_I1 dX0_unit_60 q754 q138 q752 q753 rfl kP_X10_init (by omega) (by decide) (Nat.le_of_ble_eq_true rfl) (d_iWord (Nat.lt_succ_self _) sh_new) ?_
        have h0 := hF.1
        have h1 := hj.1.1
        exact x_aret dX0_unit_63 rfl (Or.inl ⟨_, rfl⟩) (Or.inr ⟨_, rfl⟩) (rdP_k (r := (nxt E q, [(q.2.2.1 - nI 40, q.2.2.2)])) ((if_neg hc2).trans (if_pos hnm)) ((hj.new (by decide)).tux h1) (ctk_sm hk1 (ct_newn (by omega)) (fun c k hc _ => (if_neg (fun z => by omega)).trans (tz0_lt (by omega)))) ((if_neg (fun z => by omega)).trans ((tz0_lt (by omega)).trans (h10b.trans h10))) ⟨Nat.lt_succ_self _, Or.inr (Or.inl ⟨sh_new, k, q.2.2.2, hk10, tu_at, by rw [hkc, pk_sub (by omega), show 41 + k - 40 = k + 1 by omega]⟩)⟩)
    · have hc2 : ¬ q.2.2.1 = nI 2 := fun z => hκ ((tokR_num hR).mpr z)
      have hnm : ¬ isNm q.2.2.1 := fun z => by
        obtain ⟨m, m1, m2, m3⟩ := nI_between (by decide) z (by decide)
        exact hno (m - 41) (by omega) (by rw [m3, show 41 + (m - 41) = m by omega])
      refine x_istore_n dX0_unit_36 (by decide) rfl ?_
      refine x_aload_n dX0_unit_37 rfl ?_
      refine x_iload_n dX0_unit_38 rfl ?_
      refine x_icm1 dX0_unit_39 ?_
      refine x_icmp_eq (tgt := 47) dX0_unit_40 (by decide) (fun hc40 => ?_) (fun hc40 => ?_)
      · refine x_ic0 dX0_unit_47 ?_
        rw [show nI 0 = bI False by decide]
        exact k_must hF ⟨hT, hV, κ, hA, hR⟩ q736 dX0_unit_48 kG_X0_X0_must (by omega) (Nat.le_of_ble_eq_true rfl) (fun z => z.elim) (fun _ x M2 S2 h1 h2 => rdP_e (e := (nI 1, q.1)) ((if_neg hc2).trans (if_neg hnm)) h1 h2)
      · exact absurd rfl hc40
  · have hc2 := (tokR_num hR).mp hκ
    · refine x_aload_n dX0_unit_10 rfl ?_
      refine q_geti 0 9 dX0_unit_11 (C := RX0) (T := TX0) (N := 30) rfl (by decide) q404 (show 0 < fc_nx M by have := hF.1; omega) (hF.2.2 0 _ rfl) rfl (tokR_val hR hc2) ?_
      refine x_istore_n dX0_unit_14 (by decide) rfl ?_
      refine x_aload_n dX0_unit_15 rfl ?_
      refine k_next hF hW hk (fun z => absurd (hc2.symm.trans z) (by decide)) dX0_unit_16 kG_X0_X0_readNext (by omega) (Nat.le_of_ble_eq_true rfl) (fun M1 S1 hj hk1 h10b => ?_)
      refine x_newC 8 dX0_unit_19 (C := RX9) (T := TX9) (N := 1) rfl q737 q738 q137 kda_8 kdb_8 ?_
      refine x_dup dX0_unit_22 rfl ?_
      refine x_iload_n dX0_unit_23 rfl ?_
      refine x_I1 dX0_unit_24 q741 q137 q739 q740 rfl kP_X9_init (by omega) (by decide) (Nat.le_of_ble_eq_true rfl) (d_iNumber (Nat.lt_succ_self _) sh_new) ?_
      have h0 := hF.1
      have h1 := hj.1.1
      exact x_aret dX0_unit_27 rfl (Or.inl ⟨_, rfl⟩) (Or.inr ⟨_, rfl⟩) (rdP_k (r := (nxt E q, [(nI 0, q.2.2.2)])) (if_pos hc2) ((hj.new (by decide)).tux h1) (ctk_sm hk1 (ct_newn (by omega)) (fun c k hc _ => (if_neg (fun z => by omega)).trans (tz0_lt (by omega)))) ((if_neg (fun z => by omega)).trans ((tz0_lt (by omega)).trans (h10b.trans h10))) ⟨Nat.lt_succ_self _, Or.inl ⟨sh_new, by rw [tu_at]⟩⟩)
end T99ZZH

set_option maxRecDepth 100000
section T99ZZP
variable {g : fc_G} {l : Launch} {M M0 : fc_M} {S S0 : tT} {U : tU} {E : tEn} {q : tTk}
theorem tmI_sh {k x : Nat} {ps : tLs} (h : tmI g M S k x ps) : x < fc_nx M ∧ ∃ c, (c = 8 ∨ c = 9 ∨ c = 10 ∨ c = 11) ∧ fc_sh M x = .inl c := by
  cases k with
  | zero => exact h.elim
  | succ k =>
    obtain ⟨h1, q⟩ := h
    refine ⟨h1, ?_⟩
    rcases q with ⟨h, _⟩ | ⟨h, _⟩ | ⟨h, _⟩ | ⟨h, _⟩
    · exact ⟨8, Or.inl rfl, h⟩
    · exact ⟨9, Or.inr (Or.inl rfl), h⟩
    · exact ⟨11, Or.inr (Or.inr (Or.inr rfl)), h⟩
    · exact ⟨10, Or.inr (Or.inr (Or.inl rfl)), h⟩
theorem tm_cast {c : Nat} (h : c = 8 ∨ c = 9 ∨ c = 10 ∨ c = 11) : ∃ rc : vw_C, fcCl[c]? = some rc ∧ (rc.1 = "FourCars$Term" ∨ Cond.castable rc.1 "FourCars$Term" ∈ lw_tbl) := by
  rcases h with rfl | rfl | rfl | rfl
  · exact ⟨_, rfl, Or.inr q1637⟩
  · exact ⟨_, rfl, Or.inr q1638⟩
  · exact ⟨_, rfl, Or.inr q1639⟩
  · exact ⟨_, rfl, Or.inr q1640⟩
def rrP (g : fc_G) (M : fc_M) (S : tT) (U : tU) (R : Except tEr (List tLn × tLs)) : Outcome → fc_M → Prop := match R with
  | .error e => fun o M2 => ∃ x M' S', o = .threw (fc_B g + x) ∧ M2 = cl M' S' U ∧ (gw M S M' S' ∧ fc_nx M' ≤ fc_nx M + 412 ∧ fc_sl M' ≤ fc_sl M + 1568) ∧ fltO M' S' x e
  | .ok z => fun o M2 => ∃ τ M' S', o = .returned (some (.ref (fc_B g + τ))) ∧ M2 = cl M' S' U ∧ (gw M S M' S' ∧ fc_nx M' ≤ fc_nx M + 412 ∧ fc_sl M' ≤ fc_sl M + 1568) ∧ RR g M' S' τ z.1 z.2 z.1.length ∧ fc_nx M ≤ τ
theorem rrP_e {R : Except tEr (List tLn × tLs)} {e : tEr} {x : Nat} {M' : fc_M} {S' : tT} (h : R = .error e) (h1 : gw M S M' S' ∧ fc_nx M' ≤ fc_nx M + 412 ∧ fc_sl M' ≤ fc_sl M + 1568) (h2 : fltO M' S' x e) : rrP g M S U R (.threw (fc_B g + x)) (cl M' S' U) := by
  rw [h]; exact ⟨x, M', S', rfl, rfl, h1, h2⟩
theorem rrP_k {R : Except tEr (List tLn × tLs)} {z : List tLn × tLs} {τ : Nat} {M' : fc_M} {S' : tT} (h : R = .ok z) (h1 : gw M S M' S' ∧ fc_nx M' ≤ fc_nx M + 412 ∧ fc_sl M' ≤ fc_sl M + 1568) (h2 : RR g M' S' τ z.1 z.2 z.1.length) (h3 : fc_nx M ≤ τ) : rrP g M S U R (.returned (some (.ref (fc_B g + τ)))) (cl M' S' U) := by
  rw [h]; exact ⟨τ, M', S', rfl, rfl, h1, h2, h3⟩
theorem js.fin {p : Nat} (h : js M0 S0 M S p) (hp : p ≤ 400) : gw M0 S0 M S ∧ fc_nx M ≤ fc_nx M0 + 412 ∧ fc_sl M ≤ fc_sl M0 + 1568 := ⟨h.1, by have := h.2.1; omega, by have := h.2.2; omega⟩
def pR2 (E : tEn) (k : Nat) (q2 : tTk) (ls : List tLn) (ps : tLs) (wd : Int32) (p1 p2 : tLs) : Except tEr (List tLn × tLs) := if q2.2.2.1 = nI 159 then pRL E k (nxt E q2) (ls ++ [(wd, ps.length, ps.length + p1.length, ps.length + p1.length + p2.length)]) (ps ++ (p1 ++ p2)) else .error (nI 1, q2.1)
def pR1 (E : tEn) (k : Nat) (q1 : tTk) (ls : List tLn) (ps : tLs) (wd : Int32) (p1 : tLs) : Except tEr (List tLn × tLs) := match pWh E q1 with
  | .error e => .error e
  | .ok r => pR2 E k r.1 ls ps wd p1 r.2
theorem pRL_1 {k : Nat} {ls : List tLn} {ps : tLs} {r : tTk × tLs} (h0 : ¬ q.2.2.1 = 0) (h1 : isLn q.2.2.1) (h2 : ¬ ls.length = 16) (h3 : pCo E q = .ok r) : pRL E (k + 1) q ls ps = pR1 E k r.1 ls ps (q.2.2.1 - nI 20) r.2 := by
  rw [pRL, if_neg h0, pLn, if_pos h1, if_neg h2, bindX_k h3, pR1]
  cases hw : pWh E r.1 with
  | error e => rw [bindX_e rfl]
  | ok r2 =>
    rw [bindX_k rfl]
    simp only
    rw [pR2]
    by_cases c : r2.1.2.2.1 = nI 159
    · rw [if_pos c, if_pos c]
    · rw [if_neg c, if_neg c]
theorem pRL_1e {k : Nat} {ls : List tLn} {ps : tLs} {e : tEr} (h0 : ¬ q.2.2.1 = 0) (h1 : isLn q.2.2.1) (h2 : ¬ ls.length = 16) (h3 : pCo E q = .error e) : pRL E (k + 1) q ls ps = .error e := by
  rw [pRL, if_neg h0, pLn, if_pos h1, if_neg h2, bindX_e h3]
/-- the cost of a line, its test -/
def cF (g : fc_G) (M : fc_M) (S : tT) (τ n : Nat) (wd : Int32) (p1 : tLs) : Prop := (S (τ + 1) n = wd ∧ (wd = nI 0 ∨ wd = nI 1)) ∧ (¬ wd = nI 1 → ∃ x, fc_ct M (τ + 2) n = .ref (fc_B g + x) ∧ tmI g M S 402 x p1 ∧ okT p1)
def wF (g : fc_G) (M : fc_M) (S : tT) (τ n : Nat) (p2 : tLs) : Prop := (p2 = [] ∧ fc_ct M (τ + 3) n = .null) ∨ (1 ≤ p2.length ∧ ∃ x, fc_ct M (τ + 3) n = .ref (fc_B g + x) ∧ tmI g M S 402 x p2 ∧ okB p2)
theorem cF_gw {M1 : fc_M} {S1 : tT} {τ n : Nat} {wd : Int32} {p1 : tLs} (h0 : fc_sh M 0 = .inl 0) (h : cF g M S τ n wd p1) (hτ : τ + 4 ≤ fc_nx M ∧ 1 ≤ τ) (e : gw M S M1 S1) : cF g M1 S1 τ n wd p1 := by
  obtain ⟨⟨a1, a2⟩, a3⟩ := h
  refine ⟨⟨(e.2.2.2 _ _ (by omega) (by omega)).trans a1, a2⟩, fun z => ?_⟩
  obtain ⟨x, b1, b2, b3⟩ := a3 z
  exact ⟨x, ((e.2.2.1 _ (by omega)).2 _ (by omega)).trans b1, tmI_gw h0 e _ _ _ b2, b3⟩
theorem wF_gw {M1 : fc_M} {S1 : tT} {τ n : Nat} {p2 : tLs} (h0 : fc_sh M 0 = .inl 0) (h : wF g M S τ n p2) (hτ : τ + 4 ≤ fc_nx M ∧ 1 ≤ τ) (e : gw M S M1 S1) : wF g M1 S1 τ n p2 := by
  rcases h with ⟨a1, a2⟩ | ⟨a1, x, b1, b2, b3⟩
  · exact Or.inl ⟨a1, ((e.2.2.1 _ (by omega)).2 _ (by omega)).trans a2⟩
  · exact Or.inr ⟨a1, x, ((e.2.2.1 _ (by omega)).2 _ (by omega)).trans b1, tmI_gw h0 e _ _ _ b2, b3⟩
theorem LnF_of {τ n : Nat} {ps p1 p2 : tLs} {wd : Int32} (h1 : cF g M S τ n wd p1) (h2 : wF g M S τ n p2) : LnF g M S τ (ps ++ (p1 ++ p2)) n (wd, ps.length, ps.length + p1.length, ps.length + p1.length + p2.length) := by
  have e1 : seg (ps ++ (p1 ++ p2)) ps.length (ps.length + p1.length) = p1 := seg_new rfl rfl
  have e2 : seg (ps ++ (p1 ++ p2)) (ps.length + p1.length) (ps.length + p1.length + p2.length) = p2 := by
    have := seg_new (ps := ps ++ p1) (p := p2) (z := []) (a := ps.length + p1.length) (b := ps.length + p1.length + p2.length) (by rw [List.length_append]) rfl
    rw [List.append_nil, List.append_assoc] at this
    exact this
  refine ⟨h1.1.1, h1.1.2, ⟨by show ps.length ≤ ps.length + p1.length; omega, by show ps.length + p1.length ≤ ps.length + p1.length + p2.length; omega, by rw [List.length_append, List.length_append]; show ps.length + p1.length + p2.length ≤ _; omega⟩, ?_, fun z => ?_⟩
  · show (ps.length + p1.length + p2.length = ps.length + p1.length ∧ _) ∨ (¬ ps.length + p1.length + p2.length = ps.length + p1.length ∧ _)
    rw [e2]
    rcases h2 with ⟨a1, a2⟩ | ⟨a1, b⟩
    · exact Or.inl ⟨by rw [a1]; rfl, a2⟩
    · exact Or.inr ⟨by omega, b⟩
  · show ∃ x, _ ∧ tmI g M S 402 x (seg (ps ++ (p1 ++ p2)) ps.length (ps.length + p1.length)) ∧ okT (seg (ps ++ (p1 ++ p2)) ps.length (ps.length + p1.length))
    rw [e1]
    exact h1.2 z
/-- the first token of a text -/
theorem k_first {y : MethodName} {cc : ByteArray} {nL : Nat} {ret : Option FieldType} {d n0 s0 : Nat} {pc : Nat} {L : List (Option Value)} {st : List Value} {Q : Outcome → fc_M → Prop} {i : Nat} {v0 : Int32} (hF : LF g M) (hW : WD g M) (hT : tpR S E.2.1 E.2.2) (h7 : S 0 7 = nI 0) (hd : decode cc pc = .ok (.invokevirtual i, 3)) (hG : GoodIn lw_all (wsV y.cls i yX0_readNext.cls yX0_readNext (ws_ yX0_readNext cX0_readNext 2 none))) (hdd : 8 ≤ d) (hrest : (st.map fun v => v.category).sum ≤ 8)
    (kk : ∀ M' S', gw M S M' S' → fc_nx M' = fc_nx M → fc_sl M' = fc_sl M → ctk g M' S' E (nxK E.1 E.2.1 E.2.2 0 v0) → S' 0 10 = S 0 10 → fc_X g l y cc nL ret d n0 s0 (cl M' S' U) (pc + 3) L st Q) : fc_X g l y cc nL ret d n0 s0 (cl M S U) pc L (.ref (fc_B g + 0) :: st) Q := by
  obtain ⟨o, M3, ⟨ho, κ, v, hM, hκ, hR2⟩, hC⟩ := d_readNext (l := l) (U := U) (wh := E.1) (v0 := v0) hF hT hW h7 (Nat.zero_le _)
  subst hM
  refine x_V0v (P := fun M3 => M3 = _) 0 hd hG kP_X0_readNext (T := TX0) (N := 30) rfl (show 0 < fc_nx M by have := hF.1; omega) (hF.2.2 0 _ rfl) (by omega) (by decide) hrest ⟨o, _, ⟨ho, rfl⟩, hC⟩ (fun M3 e9 => ?_)
  subst e9
  have hv1 : tkv E.2.2 (nxK E.1 E.2.1 E.2.2 0 v0) := (nxC_v (spL_le 401 0 (Nat.zero_le _)).2).1
  refine kk _ _ ⟨Nat.le_refl _, Nat.le_refl _, fun a ha => ⟨rfl, fun k hk => ct_pn hk⟩, fun a k ha hk => ?_⟩ rfl rfl ⟨tpR_s3 hT, hv1, κ, ⟨ct_ps, hκ, rfl, ?_, ?_⟩, hR2⟩ rfl
  · show (if a = 0 then (if k = 7 then _ else if k = 8 then _ else if k = 9 then _ else S 0 k) else S a k) = S a k
    by_cases z : a = 0
    · subst z
      rw [if_pos rfl, if_neg (by omega), if_neg (by omega), if_neg (by omega)]
    · rw [if_neg z]
  · rw [show (nxK E.1 E.2.1 E.2.2 0 v0).1 + ((nxK E.1 E.2.1 E.2.2 0 v0).2.1 - (nxK E.1 E.2.1 E.2.2 0 v0).1) = (nxK E.1 E.2.1 E.2.2 0 v0).2.1 by have := hv1.1; omega]
    rfl
  · have := hv1.1
    have := hv1.2.1
    omega
set_option maxHeartbeats 1000000 in
theorem b_rr134 {n0 s0 : Nat} {τ k : Nat} (hτ0 : fc_nx M0 ≤ τ) (hE : ¬ E.1 = nI 3) (h9 : 9 ≤ fc_nx M0) (HI : ∀ (M : fc_M) (S : tT) (q : tTk) (ls : List tLn) (ps : tLs) (o2 : Option Value), LF g M → WD g M → ctk g M S E q → S 0 10 = nI 0 → js M0 S0 M S q.1 → RR g M S τ ls ps ls.length → E.2.2 < q.1 + k → fc_X g l yX0_readsRule cX0_readsRule 3 (Option.some (Jvm.ClassFile.FieldType.object "FourCars$Text")) 40 n0 s0 (cl M S U) 22 [some (.ref (fc_B g + 0)), some (.ref (fc_B g + τ)), o2] [] (rrP g M0 S0 U (pRL E k q ls ps))) {ls : List tLn} {ps p1 : tLs} {wd : Int32} (h16 : ls.length < 16) (hF : LF g M) (hW : WD g M) (hk : ctk g M S E q) (h10 : S 0 10 = nI 0) (hj : js M0 S0 M S q.1) (hR : RR g M S τ ls ps (ls.length + 1)) (hcF : cF g M S τ ls.length wd p1) {p2 : tLs} (hwF : wF g M S τ ls.length p2) (hfu : E.2.2 < q.1 + (k + 1)) {o2 : Option Value} : fc_X g l yX0_readsRule cX0_readsRule 3 (Option.some (Jvm.ClassFile.FieldType.object "FourCars$Text")) 40 n0 s0 (cl M S U) 134 [some (.ref (fc_B g + 0)), some (.ref (fc_B g + τ)), o2] [] (rrP g M0 S0 U (pR2 E k q ls ps wd p1 p2)) := by
  refine x_aload_n dX0_readsRule_134 rfl ?_
  refine x_bipush (v := nI 59) dX0_readsRule_135 (by decide) ?_
  refine k_takes (c := 59) hF hW hk (by decide) q512 dX0_readsRule_137 kG_X0_X0_takesSign (by omega) (Nat.le_of_ble_eq_true rfl) (fun hP M1 S1 hj1 hk1 h1 => ?_) (fun hP x M1 S1 hj1 hf => rrP_e (e := (nI 1, q.1)) (if_neg hP) (hj.tre hj1) hf)
  have hF1 := LF_gw hF hj1.1
  have hW1 := WD_gw hF hW hj1.1
  have h0s : fc_sh M 0 = .inl 0 := hF.2.2 0 _ rfl
  have hR1 := RR_gw h0s hR hj1.1
  have hτ4 : τ + 4 ≤ fc_nx M ∧ 1 ≤ τ := ⟨hR.1.1, hR.2.2.1.2.2⟩
  have hc1 := cF_gw h0s hcF hτ4 hj1.1
  have hw1 := wF_gw h0s hwF hτ4 hj1.1
  refine x_aload_n dX0_readsRule_140 rfl ?_
  refine x_dup dX0_readsRule_141 rfl ?_
  refine q_geti 1 3 dX0_readsRule_142 (C := RX1) (T := TX1) (N := 4) rfl (by decide) q190 (show τ < fc_nx M1 by have := hR1.1.1; omega) hR1.1.2.1 rfl hR1.2.2.1.1 ?_
  refine x_ic1 dX0_readsRule_145 ?_
  refine x_iaddN dX0_readsRule_146 ?_
  refine q_puti 1 3 dX0_readsRule_147 (C := RX1) (T := TX1) (N := 4) rfl (by decide) q190 rfl rfl rfl (show τ < fc_nx M1 by have := hR1.1.1; omega) hR1.1.2.1 rfl ?_
  refine x_goto (tgt := 22) dX0_readsRule_150 (by decide) ?_
  rw [pR2, if_pos hP]
  have hl := nxt_lt hk.2.1 (fun z => absurd (hP.symm.trans z) (by decide))
  have hRE := RR_end hR1 h16 (LnF_of (ps := ps) hc1 hw1)
  exact HI M1 _ _ _ _ _ hF1 hW1 (ctk_tu hk1 (by omega)) ((if_neg (fun z => by omega)).trans (h1.trans h10)) ((hj.tr hj1).tux (by omega)) (by rw [List.length_append]; exact hRE) (by omega)
set_option maxHeartbeats 1000000 in
theorem b_rr108 {n0 s0 : Nat} {τ k : Nat} (hτ0 : fc_nx M0 ≤ τ) (hE : ¬ E.1 = nI 3) (h9 : 9 ≤ fc_nx M0) (HI : ∀ (M : fc_M) (S : tT) (q : tTk) (ls : List tLn) (ps : tLs) (o2 : Option Value), LF g M → WD g M → ctk g M S E q → S 0 10 = nI 0 → js M0 S0 M S q.1 → RR g M S τ ls ps ls.length → E.2.2 < q.1 + k → fc_X g l yX0_readsRule cX0_readsRule 3 (Option.some (Jvm.ClassFile.FieldType.object "FourCars$Text")) 40 n0 s0 (cl M S U) 22 [some (.ref (fc_B g + 0)), some (.ref (fc_B g + τ)), o2] [] (rrP g M0 S0 U (pRL E k q ls ps))) {ls : List tLn} {ps p1 : tLs} {wd : Int32} (h16 : ls.length < 16) (hF : LF g M) (hW : WD g M) (hk : ctk g M S E q) (h10 : S 0 10 = nI 0) (hj : js M0 S0 M S q.1) (hR : RR g M S τ ls ps (ls.length + 1)) (hcF : cF g M S τ ls.length wd p1) (hnl : fc_ct M (τ + 3) ls.length = .null) (hfu : E.2.2 < q.1 + (k + 1)) {o2 : Option Value} : fc_X g l yX0_readsRule cX0_readsRule 3 (Option.some (Jvm.ClassFile.FieldType.object "FourCars$Text")) 40 n0 s0 (cl M S U) 108 [some (.ref (fc_B g + 0)), some (.ref (fc_B g + τ)), o2] [] (rrP g M0 S0 U (pR1 E k q ls ps wd p1)) := by
  refine x_aload_n dX0_readsRule_108 rfl ?_
  refine x_ldcS fs_14 rfl rfl dX0_readsRule_109 ?_
  refine k_V1iF hF dX0_readsRule_111 kG_X0_X0_isWord kP_X0_isWord rfl (by omega) (by decide) (Nat.le_of_ble_eq_true rfl) (c_isW (k := 0) hF hk hE (by decide)) ?_
  refine x_ifB_eq (tgt := 134) dX0_readsRule_114 (by decide) (fun hc114 => ?_) (fun hc114 => ?_)
  · rw [show pR1 E k q ls ps wd p1 = pR2 E k q ls ps wd p1 [] by rw [pR1, pWh, if_neg hc114]]
    exact b_rr134 hτ0 hE h9 HI h16 hF hW hk h10 hj hR hcF (Or.inl ⟨rfl, hnl⟩) hfu
  · refine x_aload_n dX0_readsRule_117 rfl ?_
    refine k_next hF hW hk (fun z => absurd (hc114.symm.trans z) (by decide)) dX0_readsRule_118 kG_X0_X0_readNext (by omega) (Nat.le_of_ble_eq_true rfl) (fun M1 S1 hj1 hk1 h1 => ?_)
    have hF1 := LF_gw hF hj1.1
    have hW1 := WD_gw hF hW hj1.1
    have h0s : fc_sh M 0 = .inl 0 := hF.2.2 0 _ rfl
    have hR1 := RR_gw h0s hR hj1.1
    have hτ4 : τ + 4 ≤ fc_nx M ∧ 1 ≤ τ := ⟨hR.1.1, hR.2.2.1.2.2⟩
    have hc1 := cF_gw h0s hcF hτ4 hj1.1
    have hl := nxt_lt hk.2.1 (fun z => absurd (hc114.symm.trans z) (by decide))
    refine x_aload_n dX0_readsRule_121 rfl ?_
    refine q_getr 1 2 dX0_readsRule_122 (C := RX1) (T := TX1) (N := 4) rfl (by decide) q188 (show τ < fc_nx M1 by have := hR1.1.1; omega) hR1.1.2.1 rfl hR1.2.1.2.2 ?_
    refine x_aload_n dX0_readsRule_125 rfl ?_
    refine q_geti 1 3 dX0_readsRule_126 (C := RX1) (T := TX1) (N := 4) rfl (by decide) q190 (show τ < fc_nx M1 by have := hR1.1.1; omega) hR1.1.2.1 rfl hR1.2.2.1.1 ?_
    refine x_aload_n dX0_readsRule_129 rfl ?_
    refine k_P hF1 q512 dX0_readsRule_130 kG_X0_X0_any kP_X0_any rfl (by omega) (by decide) (Nat.le_of_ble_eq_true rfl) (d_anyT hE M1 S1 _ hF1 hW1 hk1 (h1.trans h10)) (fun r x M2 S2 hr hj2 hk2 h2 hA => ?_) (fun e x M2 S2 hr hj2 hf => rrP_e (by rw [pR1, pWh, if_pos hc114, hr]) ((hj.tr hj1).tre hj2) hf)
    have hF2 := LF_gw hF1 hj2.1
    have hW2 := WD_gw hF1 hW1 hj2.1
    have h0s1 : fc_sh M1 0 = .inl 0 := hF1.2.2 0 _ rfl
    have hR2 := RR_gw h0s1 hR1 hj2.1
    have hτ41 : τ + 4 ≤ fc_nx M1 ∧ 1 ≤ τ := ⟨hR1.1.1, hR.2.2.1.2.2⟩
    have hc2 := cF_gw h0s1 hc1 hτ41 hj2.1
    have hx2 : x < fc_nx M2 ∧ ∃ c, (c = 8 ∨ c = 9 ∨ c = 10 ∨ c = 11) ∧ fc_sh M2 x = .inl c := tmI_sh hA
    obtain ⟨hx3, c3, hc3, hs3⟩ := hx2
    have hca : (∃ rc, fcCl[c3]? = some rc ∧ (rc.1 = "FourCars$Term" ∨ Cond.castable rc.1 "FourCars$Term" ∈ lw_tbl)) := tm_cast hc3
    obtain ⟨rc, hrc1, hrc2⟩ := hca
    refine x_aast dX0_readsRule_133 (show τ + 3 < fc_nx M2 by have := hR2.1.1; omega) hR2.1.2.2.2.2 (by decide) h16 hx3 hs3 hrc1 hrc2 ?_
    rw [cl_putr (by rw [hR2.1.2.2.2.2]; rfl)]
    have hn9 := pAn_n hk1.2.1 hr
    have hn8 := ctk_le hk2
    have hl2 := hj2.2.1
    rw [show pR1 E k q ls ps wd p1 = pR2 E k r.1 ls ps wd p1 r.2 by rw [pR1, pWh, if_pos hc114, hr]]
    have hc3 : cF g (fc_put M2 (τ + 3) ls.length (.ref (fc_B g + x))) S2 τ ls.length wd p1 := ⟨hc2.1, fun z => by
      obtain ⟨y, b1, b2, b3⟩ := hc2.2 z
      exact ⟨y, (ct_pn (fun z => by omega)).trans b1, tmI_pt2 (nsh hR2.1.2.2.2.2) _ _ _ b2, b3⟩⟩
    exact b_rr134 hτ0 hE h9 HI h16 (LF_pt hF2 (by omega)) (WD_pt hW2 (by omega)) (ctk_put hk2 (by omega)) h2 (((hj.tr hj1).tr hj2).put (by omega)) (RR_p3 hR2) hc3 (Or.inr ⟨tmI_pos hA, x, ct_ps, tmI_pt2 (nsh hR2.1.2.2.2.2) _ _ _ (tmI_mono _ _ _ _ (by omega) hA), pAn_ok hr⟩) (by omega)
end T99ZZP

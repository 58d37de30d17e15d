set_option maxRecDepth 100000
section T99ZZJ
variable {g : fc_G} {l : Launch} {M M0 : fc_M} {S S0 : tT} {U : tU} {E : tEn} {q : tTk}
theorem kG_X0_X0_opens : GoodIn lw_all (wsV RX0 251 RX0 yX0_opens (ws_ yX0_opens cX0_opens 1 (none))) := lw_V q796 q798 qs16 q118 q799
theorem kP_X0_opens : kPar yX0_opens 0 := by decide +kernel
theorem kG_X0_X0_takesSign : GoodIn lw_all (wsV RX0 265 RX0 yX0_takesSign (ws_ yX0_takesSign cX0_takesSign 2 (none))) := lw_V q810 q812 qs17 q118 q813
theorem kP_X0_takesSign : kPar yX0_takesSign 1 := by decide +kernel
theorem kG_X0_X0_oneOf : GoodIn lw_all (wsV RX0 254 RX0 yX0_oneOf (ws_ yX0_oneOf cX0_oneOf 3 (Option.some (Jvm.ClassFile.FieldType.object "FourCars$Term")))) := lw_V q792 q794 qs15 q118 q795
theorem kP_X0_oneOf : kPar yX0_oneOf 0 := by decide +kernel
theorem kG_X0_X0_both : GoodIn lw_all (wsV RX0 272 RX0 yX0_both (ws_ yX0_both cX0_both 2 (Option.some (Jvm.ClassFile.FieldType.object "FourCars$Term")))) := lw_V q788 q790 qs14 q118 q791
theorem kP_X0_both : kPar yX0_both 0 := by decide +kernel
theorem kG_X0_X0_any : GoodIn lw_all (wsV RX0 262 RX0 yX0_any (ws_ yX0_any cX0_any 2 (Option.some (Jvm.ClassFile.FieldType.object "FourCars$Term")))) := lw_V q784 q786 qs13 q118 q787
theorem kP_X0_any : kPar yX0_any 0 := by decide +kernel
def opP (g : fc_G) (M : fc_M) (S : tT) (U : tU) (E : tEn) (q : tTk) (dp : Nat) : Outcome → fc_M → Prop := fun o M2 => (¬ dp = 8 ∧ o = .returned none ∧ ∃ M' S', M2 = cl M' S' U ∧ jw M S q.1 1 M' S' (nxt E q).1 ∧ ctk g M' S' E (nxt E q) ∧ S' 0 10 = nI (dp + 1)) ∨ (dp = 8 ∧ rdE g M S U q.1 (nI 3, q.1) o M2)
set_option maxHeartbeats 1000000 in
theorem d_opens (hF : LF g M) (hW : WD g M) (hk : ctk g M S E q) (hc : q.2.2.1 ≠ nI 0) {dp : Nat} (hd8 : dp ≤ 8) (h10 : S 0 10 = nI dp) : fc_CX g l yX0_opens cX0_opens 1 (none) 8 [.ref (fc_B g + 0)] (cl M S U) (opP g M S U E q dp) := by
  refine fc_enter (by decide) (Nat.le_of_ble_eq_true rfl) rfl ?_
  refine x_aload_n dX0_opens_0 rfl ?_
  refine q_geti 0 10 dX0_opens_1 (C := RX0) (T := TX0) (N := 30) rfl (by decide) q405 (show 0 < fc_nx M by have := hF.1; omega) (hF.2.2 0 _ rfl) rfl h10 ?_
  refine x_bipush (v := nI 8) dX0_opens_4 (by decide) ?_
  refine x_icmpN_ne (tgt := 22) dX0_opens_6 (by decide) (by omega) (by omega) (fun hc6 => ?_) (fun hc6 => ?_)
  · refine x_aload_n dX0_opens_22 rfl ?_
    refine x_dup dX0_opens_23 rfl ?_
    refine q_geti 0 10 dX0_opens_24 (C := RX0) (T := TX0) (N := 30) rfl (by decide) q405 (show 0 < fc_nx M by have := hF.1; omega) (hF.2.2 0 _ rfl) rfl h10 ?_
    refine x_ic1 dX0_opens_27 ?_
    refine x_iaddN dX0_opens_28 ?_
    refine q_puti 0 10 dX0_opens_29 (C := RX0) (T := TX0) (N := 30) rfl (by decide) q405 rfl rfl rfl (show 0 < fc_nx M by have := hF.1; omega) (hF.2.2 0 _ rfl) rfl ?_
    have hk0 : ctk g M (tu S 0 10 (nI (dp + 1))) E q := ctk_sm hk rfl (fun a k _ h => if_neg h)
    refine x_aload_n dX0_opens_32 rfl ?_
    refine k_next hF hW hk0 hc dX0_opens_33 kG_X0_X0_readNext (by omega) (Nat.le_of_ble_eq_true rfl) (fun M1 S1 hj hk1 h10b => ?_)
    exact x_vret dX0_opens_36 rfl (Or.inl ⟨hc6, rfl, M1, S1, rfl, ⟨gw.opn.tr hj.1, hj.2⟩, hk1, h10b.trans tu_at⟩)
  · exact x_fault hF (ctk_le hk) (ctk_8 hk) rfl (Nat.le_of_ble_eq_true rfl) dX0_opens_9 dX0_opens_12 (fun h => x_ic3 dX0_opens_13 h) dX0_opens_14 dX0_opens_15 dX0_opens_18 dX0_opens_21 q799 (by omega) (fun x M2 S2 h1 h2 => Or.inr ⟨hc6, x, M2, S2, rfl, rfl, h1, h2⟩)
theorem k_opens {nm ds : String} {cc : ByteArray} {nL : Nat} {ret : Option FieldType} {d n0 s0 : Nat} {pc : Nat} {L : List (Option Value)} {st : List Value} {Q : Outcome → fc_M → Prop} {i dp : Nat} (hF : LF g M) (hW : WD g M) (hk : ctk g M S E q) (hc : q.2.2.1 ≠ nI 0) (hd8 : dp ≤ 8) (h10 : S 0 10 = nI dp) (hq : Cond.code ⟨"FourCars", nm, ds⟩ cc nL ret ∈ lw_all) (hd : decode cc pc = .ok (.invokevirtual i, 3)) (hG : GoodIn lw_all (wsV "FourCars" i yX0_opens.cls yX0_opens (ws_ yX0_opens cX0_opens 1 none))) (hdd : 9 ≤ d) (hrest : (st.map fun v => v.category).sum ≤ 8)
    (k1 : ¬ dp = 8 → ∀ M' S', jw M S q.1 1 M' S' (nxt E q).1 → ctk g M' S' E (nxt E q) → S' 0 10 = nI (dp + 1) → fc_X g l ⟨"FourCars", nm, ds⟩ cc nL ret d n0 s0 (cl M' S' U) (pc + 3) L st Q) (k2 : dp = 8 → ∀ x M' S', je M S q.1 M' S' q.1 → fltO M' S' x (nI 3, q.1) → Q (.threw (fc_B g + x)) (cl M' S' U)) : fc_X g l ⟨"FourCars", nm, ds⟩ cc nL ret d n0 s0 (cl M S U) pc L (.ref (fc_B g + 0) :: st) Q := by
  obtain ⟨o, M3, h, hC⟩ := d_opens (l := l) (U := U) hF hW hk hc hd8 h10
  rcases h with ⟨h8, ho, M', S', rfl, h1, h2, h3⟩ | ⟨h8, x, M', S', rfl, rfl, h1, h2⟩
  · exact fc_callV (As := []) 0 hd hG kP_X0_opens (T := TX0) (N := 30) rfl (show 0 < fc_nx M by have := hF.1; omega) (hF.2.2 0 _ rfl) hdd (by decide) hrest rfl hC ho (k1 h8 M' S' h1 h2 h3)
  · exact fc_callVt (As := []) 0 hd hG kP_X0_opens (Tf := TX0) (N := 30) rfl (show 0 < fc_nx M by have := hF.1; omega) (hF.2.2 0 _ rfl) hdd (by decide) hrest rfl hq hC (k2 h8 x M' S' h1 h2)
theorem k_takes {nm ds : String} {cc : ByteArray} {nL : Nat} {ret : Option FieldType} {d n0 s0 : Nat} {pc : Nat} {L : List (Option Value)} {st : List Value} {Q : Outcome → fc_M → Prop} {i c : Nat} (hF : LF g M) (hW : WD g M) (hk : ctk g M S E q) (hc : 40 ≤ c ∧ c ≤ 62) (hq : Cond.code ⟨"FourCars", nm, ds⟩ cc nL ret ∈ lw_all) (hd : decode cc pc = .ok (.invokevirtual i, 3)) (hG : GoodIn lw_all (wsV "FourCars" i yX0_takesSign.cls yX0_takesSign (ws_ yX0_takesSign cX0_takesSign 2 none))) (hdd : 9 ≤ d) (hrest : (st.map fun v => v.category).sum ≤ 8)
    (k1 : q.2.2.1 = nI (100 + c) → ∀ M' S', jw M S q.1 1 M' S' (nxt E q).1 → ctk g M' S' E (nxt E q) → S' 0 10 = S 0 10 → fc_X g l ⟨"FourCars", nm, ds⟩ cc nL ret d n0 s0 (cl M' S' U) (pc + 3) L st Q) (k2 : ¬ q.2.2.1 = nI (100 + c) → ∀ x M' S', je M S q.1 M' S' q.1 → fltO M' S' x (nI 1, q.1) → Q (.threw (fc_B g + x)) (cl M' S' U)) : fc_X g l ⟨"FourCars", nm, ds⟩ cc nL ret d n0 s0 (cl M S U) pc L (.int (nI c) :: .ref (fc_B g + 0) :: st) Q := by
  obtain ⟨o, M3, h, hC⟩ := d_takesSign (l := l) (U := U) hF hW hk hc
  rcases h with ⟨h8, ho, M', S', rfl, h1, h2, h3⟩ | ⟨h8, x, M', S', rfl, rfl, h1, h2⟩
  · exact fc_callV (As := [.int (nI c)]) 0 hd hG kP_X0_takesSign (T := TX0) (N := 30) rfl (show 0 < fc_nx M by have := hF.1; omega) (hF.2.2 0 _ rfl) hdd (by decide) hrest rfl hC ho (k1 h8 M' S' h1 h2 h3)
  · exact fc_callVt (As := [.int (nI c)]) 0 hd hG kP_X0_takesSign (Tf := TX0) (N := 30) rfl (show 0 < fc_nx M by have := hF.1; omega) (hF.2.2 0 _ rfl) hdd (by decide) hrest rfl hq hC (k2 h8 x M' S' h1 h2)
theorem tmI_not {M1 : fc_M} {S1 : tT} {a : Nat} {pa : tLs} {fv : Nat → Value} (h0 : fc_sh M1 0 = .inl 0) (hA : tmI g M1 S1 pa.length a pa) : tmI g (fc_put (fc_new M1 (.inl 11) 1 fv) (fc_nx M1) 0 (.ref (fc_B g + a))) (tz0 S1 (fc_nx M1)) (pa ++ [(nI 20, nI 0)]).length (fc_nx M1) (pa ++ [(nI 20, nI 0)]) := by
  rw [List.length_append]
  have hsn : fc_sh (fc_new M1 (.inl 11) 1 fv) (fc_nx M1) = .inl 11 := sh_new
  exact ⟨Nat.lt_succ_self _, Or.inr (Or.inr (Or.inl ⟨hsn, a, pa, ct_ps, tmI_gw h0 (gw.new.put (Nat.le_refl _)) _ _ _ hA, rfl⟩))⟩
/-- a reader of a term: its contract -/
def trC (g : fc_G) (l : Launch) (U : tU) (E : tEn) (y2 : MethodName) (c2 : ByteArray) (n2 d2 dp : Nat) (r2 : Option FieldType) (f : tTk → tRs) : Prop := ∀ (M : fc_M) (S : tT) (q : tTk), LF g M → WD g M → ctk g M S E q → S 0 10 = nI dp → fc_CX g l y2 c2 n2 r2 d2 [.ref (fc_B g + 0)] (cl M S U) (rdP g M S U E q.1 dp (f q))
/-- what is read goes on -/
def fv (E : tEn) (f : tTk → tRs) : Prop := ∀ (q : tTk) (r : tTk × tLs), tkv E.2.2 q → f q = .ok r → tkv E.2.2 r.1 ∧ q.1 ≤ r.1.1
theorem chL_v {f : tTk → tRs} {tok how : Int32} (hf : fv E f) : ∀ (k : Nat) (q : tTk) (ps : tLs) {r : tTk × tLs}, tkv E.2.2 q → chL E f tok how k q ps = .ok r → tkv E.2.2 r.1 ∧ q.1 ≤ r.1.1
  | 0, q, ps, r, hv, h => by cases h; exact ⟨hv, Nat.le_refl _⟩
  | k + 1, q, ps, r, hv, h => by
    have v1 := (nxt_v hv).1
    have l1 := tkv_le hv
    rw [chL] at h
    split at h
    · cases hu : f (nxt E q) with
      | error e => rw [hu] at h; cases h
      | ok u =>
        rw [hu] at h
        have z0 := hf _ _ v1 hu
        have z := chL_v hf k _ _ z0.1 h
        exact ⟨z.1, by omega⟩
    · cases h; exact ⟨hv, Nat.le_refl _⟩
theorem chF_v {f : tTk → tRs} {tok how : Int32} (hf : fv E f) : fv E (chF E f tok how) := by
  intro q r hv h
  unfold chF at h
  cases hu : f q with
  | error e => rw [hu] at h; cases h
  | ok u =>
    rw [hu] at h
    have z0 := hf _ _ hv hu
    have z := chL_v hf 401 _ _ z0.1 h
    exact ⟨z.1, by omega⟩
theorem pSL_v : ∀ (k : Nat) (q : tTk) (ps : tLs) {r : tTk × tLs}, tkv E.2.2 q → pSL E k q ps = .ok r → tkv E.2.2 r.1 ∧ q.1 ≤ r.1.1
  | 0, q, ps, r, hv, h => by cases h; exact ⟨hv, Nat.le_refl _⟩
  | k + 1, q, ps, r, hv, h => by
    have v1 := (nxt_v hv).1
    have l1 := tkv_le hv
    rw [pSL] at h
    split at h
    · cases hu : pPr E (nxt E q) with
      | error e => rw [hu] at h; cases h
      | ok u =>
        rw [hu] at h
        have z0 := pPr_v v1 hu
        have z := pSL_v k _ _ z0.1 h
        exact ⟨z.1, by omega⟩
    · split at h
      · cases hu : pPr E (nxt E q) with
        | error e => rw [hu] at h; cases h
        | ok u =>
          rw [hu] at h
          have z0 := pPr_v v1 hu
          have z := pSL_v k _ _ z0.1 h
          exact ⟨z.1, by omega⟩
      · cases h; exact ⟨hv, Nat.le_refl _⟩
theorem pSu_v : fv E (pSu E) := by
  intro q r hv h
  unfold pSu at h
  cases hu : pPr E q with
  | error e => rw [hu] at h; cases h
  | ok u =>
    rw [hu] at h
    have z0 := pPr_v hv hu
    have z := pSL_v 401 _ _ z0.1 h
    exact ⟨z.1, by omega⟩
theorem pOne_v : ∀ (k dep : Nat), fv E (pOne E k dep)
  | 0, dep => fun q r hv h => by cases h; exact ⟨hv, Nat.le_refl _⟩
  | k + 1, dep => fun q r hv h => by
    have v1 := (nxt_v hv).1
    have l1 := tkv_le hv
    rw [pOne] at h
    split at h
    · split at h
      · cases h
      · cases hu : pOne E k (dep + 1) (nxt E q) with
        | error e => rw [hu] at h; cases h
        | ok u =>
          rw [hu] at h
          have z0 := pOne_v k (dep + 1) _ _ v1 hu
          cases h
          exact ⟨z0.1, by show q.1 ≤ u.1.1; omega⟩
    · split at h
      · split at h
        · cases h
        · cases hu : chF E (chF E (pOne E k (dep + 1)) (nI 5) (nI 21)) (nI 4) (nI 22) (nxt E q) with
          | error e => rw [hu] at h; cases h
          | ok u =>
            rw [hu] at h
            have z0 := chF_v (chF_v (pOne_v k (dep + 1))) _ _ v1 hu
            have h2 : pNd E (nI 141) u = .ok r := h
            unfold pNd at h2
            split at h2
            · cases h2
              exact ⟨(nxt_v z0.1).1, by have := tkv_le z0.1; show q.1 ≤ (nxt E u.1).1; omega⟩
            · cases h2
      · cases hu : pSu E q with
        | error e => rw [hu] at h; cases h
        | ok u =>
          rw [hu] at h
          have z0 := pSu_v _ _ hv hu
          have h2 : (if pHow u.1.2.2.1 = -1 then .error (nI 1, u.1.1) else bindR (pSu E (nxt E u.1)) (fun p2 => .ok (p2.1, u.2 ++ p2.2 ++ [(pHow u.1.2.2.1, nI 0)]))) = (.ok r : tRs) := h
          split at h2
          · cases h2
          · cases hu2 : pSu E (nxt E u.1) with
            | error e => rw [hu2] at h2; cases h2
            | ok u2 =>
              rw [hu2] at h2
              have z1 := pSu_v _ _ (nxt_v z0.1).1 hu2
              have z2 := tkv_le z0.1
              cases h2
              exact ⟨z1.1, by show q.1 ≤ u2.1.1; omega⟩
set_option maxHeartbeats 1000000 in
theorem m_both {n0 s0 : Nat} (hF0 : LF g M0) (hW0 : WD g M0) (hE : ¬ E.1 = nI 3) {p0 dp : Nat} {dd : Nat} (hdd : 10 ≤ dd) {f : tTk → tRs} (hf9 : fv E f) (HC : trC g l U E yX0_oneOf cX0_oneOf 3 dd dp (some (.object "FourCars$Term")) f) : ∀ (k a : Nat) (M : fc_M) (S : tT) (q : tTk) (ps : tLs), LF g M → WD g M → ctk g M S E q → S 0 10 = nI dp → jw M0 S0 p0 0 M S q.1 → tmI g M S ps.length a ps → E.2.2 < q.1 + k → fc_X g l yX0_both cX0_both 2 (Option.some (Jvm.ClassFile.FieldType.object "FourCars$Term")) (dd + 1) n0 s0 (cl M S U) 5 [some (.ref (fc_B g + 0)), some (.ref (fc_B g + a))] [] (rdP g M0 S0 U E p0 dp (chL E f (nI 5) (nI 21) k q ps)) := by
  intro k
  induction k with
  | zero => intro a M S q ps hF hW hk h10 hj hA hfu; exfalso; have := hk.2.1.1; have := hk.2.1.2.1; omega
  | succ k ih =>
    intro a M S q ps hF hW hk h10 hj hA hfu
    refine x_aload_n dX0_both_5 rfl ?_
    refine x_ldcS fs_16 rfl rfl dX0_both_6 ?_
    refine k_V1iF hF dX0_both_8 kG_X0_X0_isWord kP_X0_isWord rfl (by omega) (by decide) (Nat.le_of_ble_eq_true rfl) (c_isW (k := 2) hF hk hE (by decide)) ?_
    refine x_ifB_eq (tgt := 36) dX0_both_11 (by decide) (fun hc11 => ?_) (fun hc11 => ?_)
    · refine x_aload_n dX0_both_36 rfl ?_
      exact x_aret dX0_both_37 rfl (Or.inl ⟨_, rfl⟩) (Or.inr ⟨_, rfl⟩) (rdP_k (r := (q, ps)) (by rw [chL, if_neg hc11]) hj hk h10 hA)
    · refine x_aload_n dX0_both_14 rfl ?_
      refine k_next hF hW hk (fun z => absurd (hc11.symm.trans z) (by decide)) dX0_both_15 kG_X0_X0_readNext (by omega) (Nat.le_of_ble_eq_true rfl) (fun M1 S1 hj1 hk1 h10b => ?_)
      have hF1 := LF_gw hF hj1.1
      have hW1 := WD_gw hF hW hj1.1
      have hA1 := tmI_gw (hF.2.2 0 _ rfl) hj1.1 _ _ _ hA
      have h10c := h10b.trans h10
      refine x_two (s := 38) (n4 := 2) hF1 hW1 hk1 h10c (hj.tr hj1) hA1 (by unfold isSn; decide) rfl rfl dX0_both_18 dX0_both_21 (fun h => x_bipush (v := nI 38) dX0_both_22 (by decide) h) dX0_both_24 dX0_both_25 dX0_both_26 dX0_both_29 q791 kG_X0_X0_oneOf kP_X0_oneOf rfl (by omega) (by omega) (by decide) (Nat.le_of_ble_eq_true rfl) (fun M S h1 h2 h3 h4 => HC M S _ h1 h2 h3 h4) (fun r x M2 S2 hr hj2 hk2 h2 ht => ?_) (fun e x M2 S2 hr hj2 hf => ?_)
      · refine x_astore_n dX0_both_32 (by decide) rfl ?_
        refine x_goto (tgt := 5) dX0_both_33 (by decide) ?_
        rw [chL, if_pos hc11, bindR_k hr]
        have hl2 := nxt_lt hk.2.1 (fun z => absurd (hc11.symm.trans z) (by decide))
        have hl3 := (hf9 _ _ hk1.2.1 hr).2
        exact ih x M2 S2 r.1 _ (LF_gw hF0 hj2.1) (WD_gw hF0 hW0 hj2.1) hk2 h2 hj2 (ht _ (Or.inr ⟨by unfold isSn; decide, rfl⟩)) (by omega)
      · exact rdP_e (by rw [chL, if_pos hc11, bindR_e hr]) hj2 hf
theorem d_both (hE : ¬ E.1 = nI 3) {dp dd : Nat} (hdd : 10 ≤ dd) {f : tTk → tRs} (hf9 : fv E f) (HC : trC g l U E yX0_oneOf cX0_oneOf 3 dd dp (some (.object "FourCars$Term")) f) : trC g l U E yX0_both cX0_both 2 (dd + 1) dp (some (.object "FourCars$Term")) (chF E f (nI 5) (nI 21)) := by
  intro M S q hF hW hk h10
  refine fc_enter (by decide) (Nat.le_of_ble_eq_true rfl) rfl ?_
  refine x_aload_n dX0_both_0 rfl ?_
  refine k_P hF q791 dX0_both_1 kG_X0_X0_oneOf kP_X0_oneOf rfl (by omega) (by decide) (Nat.le_of_ble_eq_true rfl) (HC M S q hF hW hk h10) (fun r a M1 S1 hr hj hk1 h1 hA => ?_) (fun e x M2 S2 hr hj2 hf => rdP_e (by rw [chF, bindR_e hr]) hj2 hf)
  refine x_astore_n dX0_both_4 (by decide) rfl ?_
  rw [chF, bindR_k hr]
  exact m_both hF hW hE hdd hf9 HC 401 a M1 S1 r.1 r.2 (LF_gw hF hj.1) (WD_gw hF hW hj.1) hk1 h1 hj hA (by have := hk1.1.2.1; omega)
set_option maxHeartbeats 1000000 in
theorem m_any {n0 s0 : Nat} (hF0 : LF g M0) (hW0 : WD g M0) (hE : ¬ E.1 = nI 3) {p0 dp : Nat} {dd : Nat} (hdd : 10 ≤ dd) {f : tTk → tRs} (hf9 : fv E f) (HC : trC g l U E yX0_both cX0_both 2 dd dp (some (.object "FourCars$Term")) f) : ∀ (k a : Nat) (M : fc_M) (S : tT) (q : tTk) (ps : tLs), LF g M → WD g M → ctk g M S E q → S 0 10 = nI dp → jw M0 S0 p0 0 M S q.1 → tmI g M S ps.length a ps → E.2.2 < q.1 + k → fc_X g l yX0_any cX0_any 2 (Option.some (Jvm.ClassFile.FieldType.object "FourCars$Term")) (dd + 1) n0 s0 (cl M S U) 5 [some (.ref (fc_B g + 0)), some (.ref (fc_B g + a))] [] (rdP g M0 S0 U E p0 dp (chL E f (nI 4) (nI 22) k q ps)) := by
  intro k
  induction k with
  | zero => intro a M S q ps hF hW hk h10 hj hA hfu; exfalso; have := hk.2.1.1; have := hk.2.1.2.1; omega
  | succ k ih =>
    intro a M S q ps hF hW hk h10 hj hA hfu
    refine x_aload_n dX0_any_5 rfl ?_
    refine x_ldcS fs_15 rfl rfl dX0_any_6 ?_
    refine k_V1iF hF dX0_any_8 kG_X0_X0_isWord kP_X0_isWord rfl (by omega) (by decide) (Nat.le_of_ble_eq_true rfl) (c_isW (k := 1) hF hk hE (by decide)) ?_
    refine x_ifB_eq (tgt := 36) dX0_any_11 (by decide) (fun hc11 => ?_) (fun hc11 => ?_)
    · refine x_aload_n dX0_any_36 rfl ?_
      exact x_aret dX0_any_37 rfl (Or.inl ⟨_, rfl⟩) (Or.inr ⟨_, rfl⟩) (rdP_k (r := (q, ps)) (by rw [chL, if_neg hc11]) hj hk h10 hA)
    · refine x_aload_n dX0_any_14 rfl ?_
      refine k_next hF hW hk (fun z => absurd (hc11.symm.trans z) (by decide)) dX0_any_15 kG_X0_X0_readNext (by omega) (Nat.le_of_ble_eq_true rfl) (fun M1 S1 hj1 hk1 h10b => ?_)
      have hF1 := LF_gw hF hj1.1
      have hW1 := WD_gw hF hW hj1.1
      have hA1 := tmI_gw (hF.2.2 0 _ rfl) hj1.1 _ _ _ hA
      have h10c := h10b.trans h10
      refine x_two (s := 124) (n4 := 2) hF1 hW1 hk1 h10c (hj.tr hj1) hA1 (by unfold isSn; decide) rfl rfl dX0_any_18 dX0_any_21 (fun h => x_bipush (v := nI 124) dX0_any_22 (by decide) h) dX0_any_24 dX0_any_25 dX0_any_26 dX0_any_29 q787 kG_X0_X0_both kP_X0_both rfl (by omega) (by omega) (by decide) (Nat.le_of_ble_eq_true rfl) (fun M S h1 h2 h3 h4 => HC M S _ h1 h2 h3 h4) (fun r x M2 S2 hr hj2 hk2 h2 ht => ?_) (fun e x M2 S2 hr hj2 hf => ?_)
      · refine x_astore_n dX0_any_32 (by decide) rfl ?_
        refine x_goto (tgt := 5) dX0_any_33 (by decide) ?_
        rw [chL, if_pos hc11, bindR_k hr]
        have hl2 := nxt_lt hk.2.1 (fun z => absurd (hc11.symm.trans z) (by decide))
        have hl3 := (hf9 _ _ hk1.2.1 hr).2
        exact ih x M2 S2 r.1 _ (LF_gw hF0 hj2.1) (WD_gw hF0 hW0 hj2.1) hk2 h2 hj2 (ht _ (Or.inr ⟨by unfold isSn; decide, rfl⟩)) (by omega)
      · exact rdP_e (by rw [chL, if_pos hc11, bindR_e hr]) hj2 hf
theorem d_any (hE : ¬ E.1 = nI 3) {dp dd : Nat} (hdd : 10 ≤ dd) {f : tTk → tRs} (hf9 : fv E f) (HC : trC g l U E yX0_both cX0_both 2 dd dp (some (.object "FourCars$Term")) f) : trC g l U E yX0_any cX0_any 2 (dd + 1) dp (some (.object "FourCars$Term")) (chF E f (nI 4) (nI 22)) := by
  intro M S q hF hW hk h10
  refine fc_enter (by decide) (Nat.le_of_ble_eq_true rfl) rfl ?_
  refine x_aload_n dX0_any_0 rfl ?_
  refine k_P hF q787 dX0_any_1 kG_X0_X0_both kP_X0_both rfl (by omega) (by decide) (Nat.le_of_ble_eq_true rfl) (HC M S q hF hW hk h10) (fun r a M1 S1 hr hj hk1 h1 hA => ?_) (fun e x M2 S2 hr hj2 hf => rdP_e (by rw [chF, bindR_e hr]) hj2 hf)
  refine x_astore_n dX0_any_4 (by decide) rfl ?_
  rw [chF, bindR_k hr]
  exact m_any hF hW hE hdd hf9 HC 401 a M1 S1 r.1 r.2 (LF_gw hF hj.1) (WD_gw hF hW hj.1) hk1 h1 hj hA (by have := hk1.1.2.1; omega)
end T99ZZJ

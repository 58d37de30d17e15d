set_option maxRecDepth 100000
section T99ZZV
variable {g : fc_G} {l : Launch} {M M0 : fc_M} {S S0 : tT} {U : tU} {E : tEn} {q : tTk}
theorem kG_X0_X0_readsCar : GoodIn lw_all (wsV RX0 311 RX0 yX0_readsCar (ws_ yX0_readsCar cX0_readsCar 2 (none))) := lw_V q822 q824 qs20 q118 q825
theorem kP_X0_readsCar : kPar yX0_readsCar 1 := by decide +kernel
def rtP (g : fc_G) (M0 : fc_M) (S0 : tT) (U : tU) (R : Except tEr (Nat × tXs)) : Outcome → fc_M → Prop := match R with
  | .error e => fun o M2 => ∃ x M' S', o = .threw (fc_B g + x) ∧ M2 = cl M' S' U ∧ (gw M0 S0 M' S' ∧ fc_nx M' ≤ fc_nx M0 + 412 ∧ fc_sl M' ≤ fc_sl M0 + 1568) ∧ fltO M' S' x e
  | .ok z => fun o M2 => ∃ π M' S' F, o = .returned (some (.ref (fc_B g + π))) ∧ M2 = cl M' S' U ∧ (gw M0 S0 M' S' ∧ fc_nx M' ≤ fc_nx M0 + 412 ∧ fc_sl M' ≤ fc_sl M0 + 1568) ∧ z.2.1 = nI F ∧ PR g M' S' π F z.2.2.1 z.1 z.2.2.2.1 z.2.2.2.2 ∧ fc_nx M0 ≤ π
theorem rtP_e {R : Except tEr (Nat × tXs)} {e : tEr} {x : Nat} {M' : fc_M} {S' : tT} (h : R = .error e) (h1 : gw M0 S0 M' S' ∧ fc_nx M' ≤ fc_nx M0 + 412 ∧ fc_sl M' ≤ fc_sl M0 + 1568) (h2 : fltO M' S' x e) : rtP g M0 S0 U R (.threw (fc_B g + x)) (cl M' S' U) := by
  rw [h]; exact ⟨x, M', S', rfl, rfl, h1, h2⟩
theorem rtP_k {R : Except tEr (Nat × tXs)} {z : Nat × tXs} {π F : Nat} {M' : fc_M} {S' : tT} (h : R = .ok z) (h1 : gw M0 S0 M' S' ∧ fc_nx M' ≤ fc_nx M0 + 412 ∧ fc_sl M' ≤ fc_sl M0 + 1568) (h2 : z.2.1 = nI F) (h3 : PR g M' S' π F z.2.2.1 z.1 z.2.2.2.1 z.2.2.2.2) (h4 : fc_nx M0 ≤ π) : rtP g M0 S0 U R (.returned (some (.ref (fc_B g + π)))) (cl M' S' U) := by
  rw [h]; exact ⟨π, M', S', F, rfl, rfl, h1, h2, h3, h4⟩
def tlS (E : tEn) (k : Nat) (q2 : tTk) (ln : Nat) (X : tXs) : Except tEr (Nat × tXs) := if q2.2.2.1 = nI 159 then pTT E k (nxt E q2) (ln + 1) X else .error (nI 1, q2.1)
/-- a line of a tower in the class's order -/
def tlR (E : tEn) (q : tTk) (X : tXs) : Except tEr (tTk × tXs) := if q.2.2.1 = nI 30 then pFl E q X else if q.2.2.1 = nI 31 then pCr E q X else pSk E q X
theorem pTT_e2 {k ln : Nat} {X : tXs} {e : tEr} (h0 : ¬ q.2.2.1 = 0) (h : pTL E q ln X = .error e) : pTT E (k + 1) q ln X = .error e := pTT_e h0 h
theorem pTT_1 {k ln : Nat} {X : tXs} {x : tTk × tXs} (h0 : ¬ q.2.2.1 = 0) (h1 : isTl q.2.2.1) (h2 : ¬ ln = 40) (h : tlR E q X = .ok x) : pTT E (k + 1) q ln X = tlS E k x.1 ln x.2 := by
  rw [pTT, if_neg h0, pTL, if_pos h1, if_neg (fun z => h2 z.1), pTM]
  rw [show (if q.2.2.1 = nI 30 then pFl E q X else if q.2.2.1 = nI 31 then pCr E q X else pSk E q X) = .ok x from h, tlS]
  show (match (if x.1.2.2.1 = nI 159 then Except.ok (nxt E x.1, x.2) else Except.error (nI 1, x.1.1) : Except tEr (tTk × tXs)) with | Except.error e => Except.error e | Except.ok x => pTT E k x.1 (ln + 1) x.2) = _
  by_cases c : x.1.2.2.1 = nI 159
  · rw [if_pos c, if_pos c]
  · rw [if_neg c, if_neg c]
theorem pTT_1e {k ln : Nat} {X : tXs} {e : tEr} (h0 : ¬ q.2.2.1 = 0) (h1 : isTl q.2.2.1) (h2 : ¬ (ln = 40 ∧ ¬ (q.2.2.1 = nI 30 ∧ 0 < X.1) ∧ ¬ (¬ q.2.2.1 = nI 30 ∧ X.1 = 0))) (h : tlR E q X = .error e) : pTT E (k + 1) q ln X = .error e := by
  refine pTT_e h0 ?_
  rw [pTL, if_pos h1, if_neg h2, pTM]
  rw [show (if q.2.2.1 = nI 30 then pFl E q X else if q.2.2.1 = nI 31 then pCr E q X else pSk E q X) = .error e from h]
  rfl
theorem q_zast {y : MethodName} {cc : ByteArray} {nL : Nat} {ret : Option FieldType} {d n0 s0 : Nat} {pc : Nat} {L : List (Option Value)} {st : List Value} {Q : Outcome → fc_M → Prop} {a n i : Nat} (hd : decode cc pc = .ok (.bastore, 1)) (ha : a < fc_nx M) (hs : fc_sh M a = .inr (.boolean, n)) (hn : n < 2 ^ 31) (hi : i < n) (kk : fc_X g l y cc nL ret d n0 s0 (cl M (tu S a i (nI 1)) U) (pc + 1) L st Q) : fc_X g l y cc nL ret d n0 s0 (cl M S U) pc L (.int (nI 1) :: .int (nI i) :: .ref (fc_B g + a) :: st) Q := by
  refine x_zast hd ha hs hn hi ?_
  rw [show narrow .boolean (.int (nI 1)) = .int (nI 1) by decide, cl_puti (by rw [hs]; rfl)]
  exact kk
theorem lt_of_m1 {n : Nat} {v : Int32} (hn : n < 1000) (h : nI 0 ≤ v ∧ v ≤ nI n - nI 1) : ∃ c, c < n ∧ v = nI c := by
  rcases Nat.eq_zero_or_pos n with z | z
  · subst z
    exact absurd (Int32.le_trans h.1 h.2) (by decide)
  · rw [pk_sub (by omega)] at h
    obtain ⟨m, m1, m2, m3⟩ := nI_between (by omega) h (by decide)
    exact ⟨m, by omega, m3⟩
set_option maxHeartbeats 1000000 in
theorem b_rt174 {n0 s0 : Nat} {π k : Nat} (hπ0 : fc_nx M0 ≤ π) (h9 : 9 ≤ fc_nx M0) (HI : ∀ (M : fc_M) (S : tT) (q : tTk) (F nc ln : Nat) (K Z : Nat → Int32) (o2 o3 : Option Value), LF g M → WD g M → ctk g M S E q → js M0 S0 M S q.1 → PR g M S π F nc ln K Z → E.2.2 < q.1 + k → fc_X g l yX0_readsTower cX0_readsTower 4 (Option.some (Jvm.ClassFile.FieldType.object "FourCars$Plan")) 12 n0 s0 (cl M S U) 17 [some (.ref (fc_B g + 0)), some (.ref (fc_B g + π)), o2, o3] [] (rtP g M0 S0 U (pTT E k q ln (nI F, nc, K, Z)))) {F nc ln : Nat} {K Z : Nat → Int32} (hl40 : ¬ ln = 40) (hF : LF g M) (hW : WD g M) (hk : ctk g M S E q) (hj : js M0 S0 M S q.1) (hR : PR g M S π F nc ln K Z) (hfu : E.2.2 < q.1 + (k + 1)) {o2 o3 : Option Value} : fc_X g l yX0_readsTower cX0_readsTower 4 (Option.some (Jvm.ClassFile.FieldType.object "FourCars$Plan")) 12 n0 s0 (cl M S U) 174 [some (.ref (fc_B g + 0)), some (.ref (fc_B g + π)), o2, o3] [] (rtP g M0 S0 U (tlS E k q ln (nI F, nc, K, Z))) := by
  refine x_aload_n dX0_readsTower_174 rfl ?_
  refine x_bipush (v := nI 59) dX0_readsTower_175 (by decide) ?_
  refine k_takes (c := 59) hF hW hk (by decide) q817 dX0_readsTower_177 kG_X0_X0_takesSign (by omega) (Nat.le_of_ble_eq_true rfl) (fun hP M1 S1 hj1 hk1 h1 => ?_) (fun hP x M1 S1 hj1 hf => rtP_e (e := (nI 1, q.1)) (if_neg hP) (hj.tre hj1) hf)
  have hF1 := LF_gw hF hj1.1
  have hW1 := WD_gw hF hW hj1.1
  have hR1 := PR_gw hR hj1.1
  have hl := nxt_lt hk.2.1 (fun z => absurd (hP.symm.trans z) (by decide))
  refine x_aload_n dX0_readsTower_180 rfl ?_
  refine x_dup dX0_readsTower_181 rfl ?_
  refine q_geti 2 2 dX0_readsTower_182 (C := RX2) (T := TX2) (N := 9) rfl (by decide) q214 (show π < fc_nx M1 by have := hR1.1.1; omega) hR1.1.2.1 rfl hR1.2.2.1.1.2.2 ?_
  refine x_ic1 dX0_readsTower_185 ?_
  refine x_iaddN dX0_readsTower_186 ?_
  refine q_puti 2 2 dX0_readsTower_187 (C := RX2) (T := TX2) (N := 9) rfl (by decide) q214 rfl rfl rfl (show π < fc_nx M1 by have := hR1.1.1; omega) hR1.1.2.1 rfl ?_
  refine x_goto (tgt := 17) dX0_readsTower_190 (by decide) ?_
  rw [tlS, if_pos hP]
  exact HI M1 _ _ _ _ _ _ _ _ _ hF1 hW1 (ctk_tu hk1 (by omega)) ((hj.tr hj1).tux (by omega)) (PR_l hR1 (by have := hR1.2.2.1.2.1.2.2; omega)) (by omega)
theorem pNu_v {a b : Int32} {q2 : tTk} (hv : tkv E.2.2 q) (h : pNu E a b q = .ok q2) : tkv E.2.2 q2 ∧ q.1 ≤ q2.1 := by
  unfold pNu at h
  split at h
  · split at h
    · cases h; exact ⟨(nxt_v hv).1, tkv_le hv⟩
    · cases h
  · cases h
theorem pCL_le {fl : Int32} {nc : Nat} : ∀ {q : tTk}, tkv E.2.2 q → ∀ (m i : Nat) (K : Nat → Int32) (z : tTk × (Nat → Int32)), pCL E fl nc m i q K = .ok z → q.1 ≤ z.1.1 := by
  intro q hv m
  induction m generalizing q with
  | zero => intro i K z h; cases h; exact Nat.le_refl _
  | succ m ih =>
    intro i K z h
    rw [pCL] at h
    split at h
    · cases hp : pNu E (cLo i) (cHi fl i) q with
      | error e => rw [hp] at h; cases h
      | ok q2 =>
        rw [hp] at h
        have z1 := pNu_v hv hp
        have z2 := ih z1.1 _ _ _ h
        omega
    · cases h; exact Nat.le_refl _
set_option maxHeartbeats 4000000 in
theorem m_readsTower {n0 s0 : Nat} {π : Nat} (hπ0 : fc_nx M0 ≤ π) (hE : E.1 = nI 3) (h9 : 9 ≤ fc_nx M0) (hF0 : LF g M0) (hW0 : WD g M0) : ∀ (k : Nat) (M : fc_M) (S : tT) (q : tTk) (F nc ln : Nat) (K Z : Nat → Int32) {o2 o3 : Option Value}, LF g M → WD g M → ctk g M S E q → js M0 S0 M S q.1 → PR g M S π F nc ln K Z → E.2.2 < q.1 + k → fc_X g l yX0_readsTower cX0_readsTower 4 (Option.some (Jvm.ClassFile.FieldType.object "FourCars$Plan")) 12 n0 s0 (cl M S U) 17 [some (.ref (fc_B g + 0)), some (.ref (fc_B g + π)), o2, o3] [] (rtP g M0 S0 U (pTT E k q ln (nI F, nc, K, Z))) := by
  intro k
  induction k with
  | zero => intro M S q F nc ln K Z o2 o3 hF hW hk hj hR hfu; exfalso; have := hk.2.1.1; have := hk.2.1.2.1; omega
  | succ k ih =>
    intro M S q F nc ln K Z o2 o3 hF hW hk hj hR hfu
    obtain ⟨hT, hV, κ, hA, hRk⟩ := id hk
    have hFb := hR.2.2.1.2.1
    refine x_aload_n dX0_readsTower_17 rfl ?_
    refine q_getr 0 6 dX0_readsTower_18 (C := RX0) (T := TX0) (N := 30) rfl (by decide) q401 (show 0 < fc_nx M by have := hF.1; omega) (hF.2.2 0 _ rfl) rfl hA.1 ?_
    refine x_tok 0 dX0_readsTower_21 (by decide) rfl q521 ?_
    refine x_acmpT_eq (tgt := 193) dX0_readsTower_24 (by decide) hA.2.1 (by decide) (fun hκ => ?_) (fun hκ => ?_)
    · have hc0 : q.2.2.1 = 0 := (tokR_end hRk).mp hκ
      refine x_aload_n dX0_readsTower_193 rfl ?_
      exact x_aret dX0_readsTower_194 rfl (Or.inl ⟨_, rfl⟩) (Or.inr ⟨_, rfl⟩) (rtP_k (z := (ln, nI F, nc, K, Z)) (F := F) (pTT_0 hc0) (hj.fin (ctk_le hk)) rfl hR hπ0)
    · have hc0 : ¬ q.2.2.1 = 0 := fun z => hκ ((tokR_end hRk).mpr z)
      refine x_aload_n dX0_readsTower_27 rfl ?_
      refine x_aload_n dX0_readsTower_28 rfl ?_
      refine q_getr 0 3 dX0_readsTower_29 (C := RX0) (T := TX0) (N := 30) rfl (by decide) q398 (show 0 < fc_nx M by have := hF.1; omega) (hF.2.2 0 _ rfl) rfl (hF.2.1 3 _ rfl) ?_
      refine k_word (r := 3) (N := 3) (c0 := 30) (ix := fun k => 2 + k) hF hk (Or.inr ⟨rfl, hE⟩) to_tb (by decide) (by decide) (show 3 < fc_nx M by have := hF.1; omega) (hF.2.2 3 _ rfl) (fun i hi => ⟨by omega, hW.2.1 i hi⟩) dX0_readsTower_32 kG_X0_X0_wordOf (by omega) (Nat.le_of_ble_eq_true rfl) (fun kw hkw hkc => ?_) (fun hno => ?_)
      · have htl : isTl q.2.2.1 := by rw [hkc]; exact ⟨(nI_leI (by decide) (by omega)).mpr (by omega), (nI_leI (by omega) (by decide)).mpr (by omega)⟩
        refine x_istore_n dX0_readsTower_35 (by decide) rfl ?_
        refine x_aload_n dX0_readsTower_36 rfl ?_
        refine x_iload_n dX0_readsTower_37 rfl ?_
        refine x_icm1 dX0_readsTower_38 ?_
        refine x_icmp_eq (tgt := 70) dX0_readsTower_39 (by decide) (fun hc39 => ?_) (fun hc39 => ?_)
        · exact absurd hc39 (bO_ne (by omega))
        · refine x_iload_n dX0_readsTower_42 rfl ?_
          refine x_ifN_ne (tgt := 50) dX0_readsTower_43 (by decide) (by omega) (fun hc43 => ?_) (fun hc43 => ?_)
          · refine x_ic0 dX0_readsTower_50 ?_
            refine x_aload_n dX0_readsTower_51 rfl ?_
            refine q_geti 2 0 dX0_readsTower_52 (C := RX2) (T := TX2) (N := 9) rfl (by decide) q211 (show π < fc_nx M by have := hR.1.1; omega) hR.1.2.1 rfl hR.2.2.1.1.1 ?_
            refine x_ifN_ne (tgt := 62) dX0_readsTower_55 (by decide) (by omega) (fun hc55 => ?_) (fun hc55 => ?_)
            · refine x_ic0 dX0_readsTower_62 ?_
              refine x_icmpN_ne (tgt := 70) dX0_readsTower_63 (by decide) (by omega) (by omega) (fun z => absurd rfl z) (fun _ => ?_)
              refine x_ic1 dX0_readsTower_66 ?_
              refine x_goto (tgt := 71) dX0_readsTower_67 (by decide) ?_
              rw [show nI 1 = bI True by decide]
              refine k_must hF hk q817 dX0_readsTower_71 kG_X0_X0_must (by omega) (Nat.le_of_ble_eq_true rfl) (fun _ => ?_) (fun z => absurd trivial z)
              refine x_aload_n dX0_readsTower_74 rfl ?_
              refine q_geti 2 2 dX0_readsTower_75 (C := RX2) (T := TX2) (N := 9) rfl (by decide) q214 (show π < fc_nx M by have := hR.1.1; omega) hR.1.2.1 rfl hR.2.2.1.1.2.2 ?_
              refine x_bipush (v := nI 40) dX0_readsTower_78 (by decide) ?_
              refine x_icmpN_eq (tgt := 96) dX0_readsTower_80 (by decide) (by omega) (by omega) (fun hc80 => ?_) (fun hc80 => ?_)
              · have hbad : pTT E (k + 1) q ln (nI F, nc, K, Z) = .error (nI 3, q.1) := pTT_e hc0 (by rw [pTL, if_pos htl, if_pos ⟨hc80, fun z => absurd ((nI_eq (by omega) (by decide)).mp (hkc.symm.trans z.1)) (by omega), fun z => absurd ((nI_eq (by omega) (by decide)).mp (show nI F = nI 0 from z.2)) (by omega)⟩])
                exact x_fault hF (ctk_le hk) (ctk_8 hk) rfl (Nat.le_of_ble_eq_true rfl) dX0_readsTower_96 dX0_readsTower_99 (fun h => x_ic3 dX0_readsTower_100 h) dX0_readsTower_101 dX0_readsTower_102 dX0_readsTower_105 dX0_readsTower_108 q817 (by omega) (fun x M2 S2 h1 h2 => rtP_e (e := (nI 3, q.1)) hbad (hj.tre h1) h2)
              · refine x_iload_n dX0_readsTower_83 rfl ?_
                refine x_ic1 dX0_readsTower_84 ?_
                refine x_icmpN_ne (tgt := 109) dX0_readsTower_85 (by decide) (by omega) (by omega) (fun hc85 => ?_) (fun hc85 => ?_)
                · refine x_aload_n dX0_readsTower_109 rfl ?_
                  refine k_next hF hW hk (fun z => hc0 z) dX0_readsTower_110 kG_X0_X0_readNext (by omega) (Nat.le_of_ble_eq_true rfl) (fun M1 S1 hj1 hk1 h1 => ?_)
                  have hF1 := LF_gw hF hj1.1
                  have hW1 := WD_gw hF hW hj1.1
                  have hR1 := PR_gw hR hj1.1
                  have hjs1 := hj.tr hj1
                  have hl1 := nxt_lt hk.2.1 (fun z => hc0 z)
                  refine x_iload_n dX0_readsTower_113 rfl ?_
                  refine x_ifN_ne (tgt := 128) dX0_readsTower_114 (by decide) (by omega) (fun hc114 => ?_) (fun z => absurd z (by omega))
                  refine x_iload_n dX0_readsTower_128 rfl ?_
                  refine x_ic1 dX0_readsTower_129 ?_
                  refine x_icmpN_ne (tgt := 138) dX0_readsTower_130 (by decide) (by omega) (by omega) (fun hc130 => ?_) (fun hc130 => ?_)
                  · refine x_iload_n dX0_readsTower_138 rfl ?_
                    refine x_ic2 dX0_readsTower_139 ?_
                    refine x_icmpN_ne (tgt := 174) dX0_readsTower_140 (by decide) (by omega) (by omega) (fun hc140 => ?_) (fun hc140 => ?_)
                    · omega
                    · refine x_aload_n dX0_readsTower_143 rfl ?_
                      refine x_ic0 dX0_readsTower_144 ?_
                      refine x_aload_n dX0_readsTower_145 rfl ?_
                      refine q_geti 2 1 dX0_readsTower_146 (C := RX2) (T := TX2) (N := 9) rfl (by decide) q213 (show π < fc_nx M1 by have := hR1.1.1; omega) hR1.1.2.1 rfl hR1.2.2.1.1.2.1 ?_
                      refine x_ic1 dX0_readsTower_149 ?_
                      refine x_isub dX0_readsTower_150 ?_
                      have hkw2 : kw = 2 := by omega
                      subst hkw2
                      have h30 : ¬ q.2.2.1 = nI 30 := fun z => absurd (hkc.symm.trans z) (by decide)
                      have h31 : ¬ q.2.2.1 = nI 31 := fun z => absurd (hkc.symm.trans z) (by decide)
                      have hFn : ¬ nI F = 0 := fun z => absurd ((nI_eq (by omega) (by decide)).mp (show nI F = nI 0 from z)) (by omega)
                      refine k_num hF1 hW1 hk1 q817 dX0_readsTower_151 kG_X0_X0_number (by omega) (Nat.le_of_ble_eq_true rfl) (fun h9_0 h7_0 M2 S2 hx2 hk2 h10_2 => ?_) (fun e h8 x M2 S2 h1 h2 => rtP_e (pTT_1e hc0 htl (fun z => hc80 z.1) (by rw [tlR, if_neg h30, if_neg h31]; exact pSk_e (X := (nI F, nc, K, Z)) hFn h8)) (hjs1.tre h1) h2)
                      have hF2 := LF_gw hF1 hx2.1
                      have hW2 := WD_gw hF1 hW1 hx2.1
                      have hR2 := PR_gw hR1 hx2.1
                      have hjs2 := hjs1.tr hx2
                      obtain ⟨cc9, hcc9, ec9⟩ := lt_of_m1 (by omega) h7_0
                      have hn4 := hR.2.2.1.2.1.2.1
                      rw [ec9]
                      have hl2 := hx2.2.1
                      refine x_istore_n dX0_readsTower_154 (by decide) rfl ?_
                      refine x_aload_n dX0_readsTower_155 rfl ?_
                      refine q_getr 2 8 dX0_readsTower_156 (C := RX2) (T := TX2) (N := 9) rfl (by decide) q231 (show π < fc_nx M2 by have := hR2.1.1; omega) hR2.1.2.1 rfl hR2.2.1.2.1 ?_
                      refine x_iload_n dX0_readsTower_159 rfl ?_
                      refine x_aald dX0_readsTower_160 (show π + 6 < fc_nx M2 by have := hR2.1.1; omega) hR2.1.2.2.2.1 rfl (by decide) (show cc9 < 4 by omega) ((cl_r (by rw [hR2.1.2.2.2.1]; rfl)).trans (hR2.2.1.2.2 cc9 (by omega))) ?_
                      refine x_aload_n dX0_readsTower_161 rfl ?_
                      refine x_ic0 dX0_readsTower_162 ?_
                      refine x_aload_n dX0_readsTower_163 rfl ?_
                      refine q_geti 2 0 dX0_readsTower_164 (C := RX2) (T := TX2) (N := 9) rfl (by decide) q211 (show π < fc_nx M2 by have := hR2.1.1; omega) hR2.1.2.1 rfl hR2.2.2.1.1.1 ?_
                      refine x_ic1 dX0_readsTower_167 ?_
                      refine x_isub dX0_readsTower_168 ?_
                      refine k_num hF2 hW2 hk2 q817 dX0_readsTower_169 kG_X0_X0_number (by omega) (Nat.le_of_ble_eq_true rfl) (fun h9_1 h7_1 M3 S3 hx3 hk3 h10_3 => ?_) (fun e h8 x M3 S3 h1 h2 => rtP_e (pTT_1e hc0 htl (fun z => hc80 z.1) (by rw [tlR, if_neg h30, if_neg h31]; exact pSk_f (X := (nI F, nc, K, Z)) hFn h9_0 h8)) (hjs2.tre h1) h2)
                      have hF3 := LF_gw hF2 hx3.1
                      have hW3 := WD_gw hF2 hW2 hx3.1
                      have hR3 := PR_gw hR2 hx3.1
                      have hjs3 := hjs2.tr hx3
                      have hF80 := hR.2.2.1.2.1.1
                      obtain ⟨ff9, hff9, ef9⟩ := lt_of_m1 (by omega) h7_1
                      rw [ef9]
                      have hl3 := hx3.2.1
                      refine x_ic1 dX0_readsTower_172 ?_
                      refine q_zast dX0_readsTower_173 (show π + 7 + cc9 < fc_nx M3 by have := hR3.1.1; omega) (hR3.1.2.2.2.2 cc9 (by omega)) (by decide) (show ff9 < 80 by omega) ?_
                      have hR4 := PR_s (c := cc9) (f := ff9) hR3 (by omega) (by omega)
                      have hk4 := ctk_tu (x := π + 7 + cc9) (k := ff9) (v := nI 1) hk3 (by omega)
                      have hjs4 := hjs3.tux (x := π + 7 + cc9) (k := ff9) (v := nI 1) (by omega)
                      have hpt : pTT E (k + 1) q ln (nI F, nc, K, Z) = tlS E k (nxt E (nxt E (nxt E q))) ln (nI F, nc, K, up Z (80 * cc9 + ff9) (nI 1)) := pTT_1 (x := (nxt E (nxt E (nxt E q)), nI F, nc, K, up Z (80 * cc9 + ff9) (nI 1))) hc0 htl hc80 (by rw [tlR, if_neg h30, if_neg h31, pSk_k (X := (nI F, nc, K, Z)) hFn h9_0 h9_1, ec9, ef9, nI_clamp (by omega), nI_clamp (by omega)])
                      rw [hpt]
                      exact b_rt174 hπ0 h9 (fun M S q F nc ln K Z o2 o3 => ih M S q F nc ln K Z) hc80 hF3 hW3 hk4 hjs4 hR4 (by omega)
                  · refine x_aload_n dX0_readsTower_133 rfl ?_
                    refine x_aload_n dX0_readsTower_134 rfl ?_
                    have hkw1 : kw = 1 := hc130
                    subst hkw1
                    have h30 : ¬ q.2.2.1 = nI 30 := fun z => absurd (hkc.symm.trans z) (by decide)
                    have hFn : ¬ nI F = 0 := fun z => absurd ((nI_eq (by omega) (by decide)).mp (show nI F = nI 0 from z)) (by omega)
                    have hn4 : nc < 4 := by have := hR.2.2.1.2.1.2.1; omega
                    obtain ⟨o9, M9, h9c, hC9⟩ := d_readsCar (l := l) (U := U) hF1 hW1 hk1 hjs1 hπ0 h9 hR1 hn4
                    cases hcl9 : pCL E (nI F) nc 6 0 (nxt E q) K with
                    | error e =>
                      rw [hcl9] at h9c
                      obtain ⟨x, M2, S2, rfl, rfl, h1, h2⟩ := h9c
                      exact fc_callVt (As := [.ref (fc_B g + π)]) 0 dX0_readsTower_135 kG_X0_X0_readsCar kP_X0_readsCar (Tf := TX0) (N := 30) rfl (show 0 < fc_nx M1 by have := hF1.1; omega) (hF1.2.2 0 _ rfl) (by omega) (by decide) (Nat.le_of_ble_eq_true rfl) rfl q817 hC9 (rtP_e (pTT_1e hc0 htl (fun z => hc80 z.1) (by rw [tlR, if_neg h30, if_pos hkc, pCr, if_neg hFn, if_neg (show ¬ nc = 4 by omega), show (nI F, nc, K, Z).2.2.1 = K from rfl, hcl9]; rfl)) h1 h2)
                    | ok z =>
                      rw [hcl9] at h9c
                      obtain ⟨ho9, M2, S2, rfl, hjs2, hk2, hR2⟩ := h9c
                      have hF2 := LF_gw hF0 hjs2.1
                      have hW2 := WD_gw hF0 hW0 hjs2.1
                      have hpt : pTT E (k + 1) q ln (nI F, nc, K, Z) = tlS E k z.1 ln (nI F, nc + 1, z.2, Z) := pTT_1 (x := (z.1, nI F, nc + 1, z.2, Z)) hc0 htl hc80 (by rw [tlR, if_neg h30, if_pos hkc, pCr, if_neg hFn, if_neg (show ¬ nc = 4 by omega), show (nI F, nc, K, Z).2.2.1 = K from rfl, hcl9]; rfl)
                      have hl2 : (nxt E q).1 ≤ z.1.1 := pCL_le hk1.2.1 6 0 _ _ hcl9
                      refine fc_callV (As := [.ref (fc_B g + π)]) 0 dX0_readsTower_135 kG_X0_X0_readsCar kP_X0_readsCar (T := TX0) (N := 30) rfl (show 0 < fc_nx M1 by have := hF1.1; omega) (hF1.2.2 0 _ rfl) (by omega) (by decide) (Nat.le_of_ble_eq_true rfl) rfl hC9 ho9 ?_
                      refine x_iload_n dX0_readsTower_138 rfl ?_
                      refine x_ic2 dX0_readsTower_139 ?_
                      refine x_icmpN_ne (tgt := 174) dX0_readsTower_140 (by decide) (by omega) (by omega) (fun _ => ?_) (fun z => absurd z (by decide))
                      rw [hpt]
                      exact b_rt174 hπ0 h9 (fun M S q F nc ln K Z o2 o3 => ih M S q F nc ln K Z) hc80 hF2 hW2 hk2 hjs2 hR2 (by omega)
                · refine x_aload_n dX0_readsTower_88 rfl ?_
                  refine q_geti 2 1 dX0_readsTower_89 (C := RX2) (T := TX2) (N := 9) rfl (by decide) q213 (show π < fc_nx M by have := hR.1.1; omega) hR.1.2.1 rfl hR.2.2.1.1.2.1 ?_
                  refine x_ic4 dX0_readsTower_92 ?_
                  refine x_icmpN_ne (tgt := 109) dX0_readsTower_93 (by decide) (by omega) (by omega) (fun hc93 => ?_) (fun hc93 => ?_)
                  · refine x_aload_n dX0_readsTower_109 rfl ?_
                    refine k_next hF hW hk (fun z => hc0 z) dX0_readsTower_110 kG_X0_X0_readNext (by omega) (Nat.le_of_ble_eq_true rfl) (fun M1 S1 hj1 hk1 h1 => ?_)
                    have hF1 := LF_gw hF hj1.1
                    have hW1 := WD_gw hF hW hj1.1
                    have hR1 := PR_gw hR hj1.1
                    have hjs1 := hj.tr hj1
                    have hl1 := nxt_lt hk.2.1 (fun z => hc0 z)
                    refine x_iload_n dX0_readsTower_113 rfl ?_
                    refine x_ifN_ne (tgt := 128) dX0_readsTower_114 (by decide) (by omega) (fun hc114 => ?_) (fun z => absurd z (by omega))
                    refine x_iload_n dX0_readsTower_128 rfl ?_
                    refine x_ic1 dX0_readsTower_129 ?_
                    refine x_icmpN_ne (tgt := 138) dX0_readsTower_130 (by decide) (by omega) (by omega) (fun hc130 => ?_) (fun hc130 => ?_)
                    · refine x_iload_n dX0_readsTower_138 rfl ?_
                      refine x_ic2 dX0_readsTower_139 ?_
                      refine x_icmpN_ne (tgt := 174) dX0_readsTower_140 (by decide) (by omega) (by omega) (fun hc140 => ?_) (fun hc140 => ?_)
                      · omega
                      · refine x_aload_n dX0_readsTower_143 rfl ?_
                        refine x_ic0 dX0_readsTower_144 ?_
                        refine x_aload_n dX0_readsTower_145 rfl ?_
                        refine q_geti 2 1 dX0_readsTower_146 (C := RX2) (T := TX2) (N := 9) rfl (by decide) q213 (show π < fc_nx M1 by have := hR1.1.1; omega) hR1.1.2.1 rfl hR1.2.2.1.1.2.1 ?_
                        refine x_ic1 dX0_readsTower_149 ?_
                        refine x_isub dX0_readsTower_150 ?_
                        have hkw2 : kw = 2 := by omega
                        subst hkw2
                        have h30 : ¬ q.2.2.1 = nI 30 := fun z => absurd (hkc.symm.trans z) (by decide)
                        have h31 : ¬ q.2.2.1 = nI 31 := fun z => absurd (hkc.symm.trans z) (by decide)
                        have hFn : ¬ nI F = 0 := fun z => absurd ((nI_eq (by omega) (by decide)).mp (show nI F = nI 0 from z)) (by omega)
                        refine k_num hF1 hW1 hk1 q817 dX0_readsTower_151 kG_X0_X0_number (by omega) (Nat.le_of_ble_eq_true rfl) (fun h9_0 h7_0 M2 S2 hx2 hk2 h10_2 => ?_) (fun e h8 x M2 S2 h1 h2 => rtP_e (pTT_1e hc0 htl (fun z => hc80 z.1) (by rw [tlR, if_neg h30, if_neg h31]; exact pSk_e (X := (nI F, nc, K, Z)) hFn h8)) (hjs1.tre h1) h2)
                        have hF2 := LF_gw hF1 hx2.1
                        have hW2 := WD_gw hF1 hW1 hx2.1
                        have hR2 := PR_gw hR1 hx2.1
                        have hjs2 := hjs1.tr hx2
                        obtain ⟨cc9, hcc9, ec9⟩ := lt_of_m1 (by omega) h7_0
                        have hn4 := hR.2.2.1.2.1.2.1
                        rw [ec9]
                        have hl2 := hx2.2.1
                        refine x_istore_n dX0_readsTower_154 (by decide) rfl ?_
                        refine x_aload_n dX0_readsTower_155 rfl ?_
                        refine q_getr 2 8 dX0_readsTower_156 (C := RX2) (T := TX2) (N := 9) rfl (by decide) q231 (show π < fc_nx M2 by have := hR2.1.1; omega) hR2.1.2.1 rfl hR2.2.1.2.1 ?_
                        refine x_iload_n dX0_readsTower_159 rfl ?_
                        refine x_aald dX0_readsTower_160 (show π + 6 < fc_nx M2 by have := hR2.1.1; omega) hR2.1.2.2.2.1 rfl (by decide) (show cc9 < 4 by omega) ((cl_r (by rw [hR2.1.2.2.2.1]; rfl)).trans (hR2.2.1.2.2 cc9 (by omega))) ?_
                        refine x_aload_n dX0_readsTower_161 rfl ?_
                        refine x_ic0 dX0_readsTower_162 ?_
                        refine x_aload_n dX0_readsTower_163 rfl ?_
                        refine q_geti 2 0 dX0_readsTower_164 (C := RX2) (T := TX2) (N := 9) rfl (by decide) q211 (show π < fc_nx M2 by have := hR2.1.1; omega) hR2.1.2.1 rfl hR2.2.2.1.1.1 ?_
                        refine x_ic1 dX0_readsTower_167 ?_
                        refine x_isub dX0_readsTower_168 ?_
                        refine k_num hF2 hW2 hk2 q817 dX0_readsTower_169 kG_X0_X0_number (by omega) (Nat.le_of_ble_eq_true rfl) (fun h9_1 h7_1 M3 S3 hx3 hk3 h10_3 => ?_) (fun e h8 x M3 S3 h1 h2 => rtP_e (pTT_1e hc0 htl (fun z => hc80 z.1) (by rw [tlR, if_neg h30, if_neg h31]; exact pSk_f (X := (nI F, nc, K, Z)) hFn h9_0 h8)) (hjs2.tre h1) h2)
                        have hF3 := LF_gw hF2 hx3.1
                        have hW3 := WD_gw hF2 hW2 hx3.1
                        have hR3 := PR_gw hR2 hx3.1
                        have hjs3 := hjs2.tr hx3
                        have hF80 := hR.2.2.1.2.1.1
                        obtain ⟨ff9, hff9, ef9⟩ := lt_of_m1 (by omega) h7_1
                        rw [ef9]
                        have hl3 := hx3.2.1
                        refine x_ic1 dX0_readsTower_172 ?_
                        refine q_zast dX0_readsTower_173 (show π + 7 + cc9 < fc_nx M3 by have := hR3.1.1; omega) (hR3.1.2.2.2.2 cc9 (by omega)) (by decide) (show ff9 < 80 by omega) ?_
                        have hR4 := PR_s (c := cc9) (f := ff9) hR3 (by omega) (by omega)
                        have hk4 := ctk_tu (x := π + 7 + cc9) (k := ff9) (v := nI 1) hk3 (by omega)
                        have hjs4 := hjs3.tux (x := π + 7 + cc9) (k := ff9) (v := nI 1) (by omega)
                        have hpt : pTT E (k + 1) q ln (nI F, nc, K, Z) = tlS E k (nxt E (nxt E (nxt E q))) ln (nI F, nc, K, up Z (80 * cc9 + ff9) (nI 1)) := pTT_1 (x := (nxt E (nxt E (nxt E q)), nI F, nc, K, up Z (80 * cc9 + ff9) (nI 1))) hc0 htl hc80 (by rw [tlR, if_neg h30, if_neg h31, pSk_k (X := (nI F, nc, K, Z)) hFn h9_0 h9_1, ec9, ef9, nI_clamp (by omega), nI_clamp (by omega)])
                        rw [hpt]
                        exact b_rt174 hπ0 h9 (fun M S q F nc ln K Z o2 o3 => ih M S q F nc ln K Z) hc80 hF3 hW3 hk4 hjs4 hR4 (by omega)
                    · refine x_aload_n dX0_readsTower_133 rfl ?_
                      refine x_aload_n dX0_readsTower_134 rfl ?_
                      have hkw1 : kw = 1 := hc130
                      subst hkw1
                      have h30 : ¬ q.2.2.1 = nI 30 := fun z => absurd (hkc.symm.trans z) (by decide)
                      have hFn : ¬ nI F = 0 := fun z => absurd ((nI_eq (by omega) (by decide)).mp (show nI F = nI 0 from z)) (by omega)
                      have hn4 : nc < 4 := by have := hR.2.2.1.2.1.2.1; omega
                      obtain ⟨o9, M9, h9c, hC9⟩ := d_readsCar (l := l) (U := U) hF1 hW1 hk1 hjs1 hπ0 h9 hR1 hn4
                      cases hcl9 : pCL E (nI F) nc 6 0 (nxt E q) K with
                      | error e =>
                        rw [hcl9] at h9c
                        obtain ⟨x, M2, S2, rfl, rfl, h1, h2⟩ := h9c
                        exact fc_callVt (As := [.ref (fc_B g + π)]) 0 dX0_readsTower_135 kG_X0_X0_readsCar kP_X0_readsCar (Tf := TX0) (N := 30) rfl (show 0 < fc_nx M1 by have := hF1.1; omega) (hF1.2.2 0 _ rfl) (by omega) (by decide) (Nat.le_of_ble_eq_true rfl) rfl q817 hC9 (rtP_e (pTT_1e hc0 htl (fun z => hc80 z.1) (by rw [tlR, if_neg h30, if_pos hkc, pCr, if_neg hFn, if_neg (show ¬ nc = 4 by omega), show (nI F, nc, K, Z).2.2.1 = K from rfl, hcl9]; rfl)) h1 h2)
                      | ok z =>
                        rw [hcl9] at h9c
                        obtain ⟨ho9, M2, S2, rfl, hjs2, hk2, hR2⟩ := h9c
                        have hF2 := LF_gw hF0 hjs2.1
                        have hW2 := WD_gw hF0 hW0 hjs2.1
                        have hpt : pTT E (k + 1) q ln (nI F, nc, K, Z) = tlS E k z.1 ln (nI F, nc + 1, z.2, Z) := pTT_1 (x := (z.1, nI F, nc + 1, z.2, Z)) hc0 htl hc80 (by rw [tlR, if_neg h30, if_pos hkc, pCr, if_neg hFn, if_neg (show ¬ nc = 4 by omega), show (nI F, nc, K, Z).2.2.1 = K from rfl, hcl9]; rfl)
                        have hl2 : (nxt E q).1 ≤ z.1.1 := pCL_le hk1.2.1 6 0 _ _ hcl9
                        refine fc_callV (As := [.ref (fc_B g + π)]) 0 dX0_readsTower_135 kG_X0_X0_readsCar kP_X0_readsCar (T := TX0) (N := 30) rfl (show 0 < fc_nx M1 by have := hF1.1; omega) (hF1.2.2 0 _ rfl) (by omega) (by decide) (Nat.le_of_ble_eq_true rfl) rfl hC9 ho9 ?_
                        refine x_iload_n dX0_readsTower_138 rfl ?_
                        refine x_ic2 dX0_readsTower_139 ?_
                        refine x_icmpN_ne (tgt := 174) dX0_readsTower_140 (by decide) (by omega) (by omega) (fun _ => ?_) (fun z => absurd z (by decide))
                        rw [hpt]
                        exact b_rt174 hπ0 h9 (fun M S q F nc ln K Z o2 o3 => ih M S q F nc ln K Z) hc80 hF2 hW2 hk2 hjs2 hR2 (by omega)
                  · have hkw1 : kw = 1 := hc85
                    subst hkw1
                    have h30 : ¬ q.2.2.1 = nI 30 := fun z => absurd (hkc.symm.trans z) (by decide)
                    have hFn : ¬ nI F = 0 := fun z => absurd ((nI_eq (by omega) (by decide)).mp (show nI F = nI 0 from z)) (by omega)
                    have hbad : pTT E (k + 1) q ln (nI F, nc, K, Z) = .error (nI 3, q.1) := pTT_1e hc0 htl (fun z => hc80 z.1) (by rw [tlR, if_neg h30, if_pos hkc, pCr, if_neg hFn, if_pos hc93])
                    exact x_fault hF (ctk_le hk) (ctk_8 hk) rfl (Nat.le_of_ble_eq_true rfl) dX0_readsTower_96 dX0_readsTower_99 (fun h => x_ic3 dX0_readsTower_100 h) dX0_readsTower_101 dX0_readsTower_102 dX0_readsTower_105 dX0_readsTower_108 q817 (by omega) (fun x M2 S2 h1 h2 => rtP_e (e := (nI 3, q.1)) hbad (hj.tre h1) h2)
            · refine x_ic1 dX0_readsTower_58 ?_
              refine x_goto (tgt := 63) dX0_readsTower_59 (by decide) ?_
              refine x_icmpN_ne (tgt := 70) dX0_readsTower_63 (by decide) (by omega) (by omega) (fun _ => ?_) (fun z => absurd z (by decide))
              refine x_ic0 dX0_readsTower_70 ?_
              have hF0 : F = 0 := hc55
              subst hF0
              have h30 : ¬ q.2.2.1 = nI 30 := fun z => absurd ((nI_eq (by omega) (by decide)).mp (hkc.symm.trans z)) (by omega)
              have hbad : pTT E (k + 1) q ln (nI 0, nc, K, Z) = .error (nI 1, q.1) := pTT_1e hc0 htl (fun z => z.2.2 ⟨h30, rfl⟩) (by rw [tlR, if_neg h30]; split; rw [pCr, if_pos (show (nI 0 : Int32) = 0 from rfl)]; rw [pSk, if_pos (show (nI 0 : Int32) = 0 from rfl)])
              rw [show nI 0 = bI False by decide]
              exact k_must hF hk q817 dX0_readsTower_71 kG_X0_X0_must (by omega) (Nat.le_of_ble_eq_true rfl) (fun z => z.elim) (fun _ x M2 S2 h1 h2 => rtP_e (e := (nI 1, q.1)) hbad (hj.tre h1) h2)
          · refine x_ic1 dX0_readsTower_46 ?_
            refine x_goto (tgt := 51) dX0_readsTower_47 (by decide) ?_
            refine x_aload_n dX0_readsTower_51 rfl ?_
            refine q_geti 2 0 dX0_readsTower_52 (C := RX2) (T := TX2) (N := 9) rfl (by decide) q211 (show π < fc_nx M by have := hR.1.1; omega) hR.1.2.1 rfl hR.2.2.1.1.1 ?_
            refine x_ifN_ne (tgt := 62) dX0_readsTower_55 (by decide) (by omega) (fun hc55 => ?_) (fun hc55 => ?_)
            · refine x_ic0 dX0_readsTower_62 ?_
              refine x_icmpN_ne (tgt := 70) dX0_readsTower_63 (by decide) (by omega) (by omega) (fun _ => ?_) (fun z => absurd z (by decide))
              refine x_ic0 dX0_readsTower_70 ?_
              have hkw0 : kw = 0 := hc43
              subst hkw0
              have hFp : 0 < nI F := nI_lt (a := 0) (b := F) (by omega) (by omega)
              have hbad : pTT E (k + 1) q ln (nI F, nc, K, Z) = .error (nI 1, q.1) := pTT_1e hc0 htl (fun z => z.2.1 ⟨hkc, hFp⟩) (by rw [tlR, if_pos hkc, pFl, if_neg (Int32.not_le.mpr hFp)])
              rw [show nI 0 = bI False by decide]
              exact k_must hF hk q817 dX0_readsTower_71 kG_X0_X0_must (by omega) (Nat.le_of_ble_eq_true rfl) (fun z => z.elim) (fun _ x M2 S2 h1 h2 => rtP_e (e := (nI 1, q.1)) hbad (hj.tre h1) h2)
            · refine x_ic1 dX0_readsTower_58 ?_
              refine x_goto (tgt := 63) dX0_readsTower_59 (by decide) ?_
              refine x_icmpN_ne (tgt := 70) dX0_readsTower_63 (by decide) (by omega) (by omega) (fun z => absurd rfl z) (fun _ => ?_)
              refine x_ic1 dX0_readsTower_66 ?_
              refine x_goto (tgt := 71) dX0_readsTower_67 (by decide) ?_
              rw [show nI 1 = bI True by decide]
              refine k_must hF hk q817 dX0_readsTower_71 kG_X0_X0_must (by omega) (Nat.le_of_ble_eq_true rfl) (fun _ => ?_) (fun z => absurd trivial z)
              refine x_aload_n dX0_readsTower_74 rfl ?_
              refine q_geti 2 2 dX0_readsTower_75 (C := RX2) (T := TX2) (N := 9) rfl (by decide) q214 (show π < fc_nx M by have := hR.1.1; omega) hR.1.2.1 rfl hR.2.2.1.1.2.2 ?_
              refine x_bipush (v := nI 40) dX0_readsTower_78 (by decide) ?_
              refine x_icmpN_eq (tgt := 96) dX0_readsTower_80 (by decide) (by omega) (by omega) (fun hc80 => ?_) (fun hc80 => ?_)
              · have hbad : pTT E (k + 1) q ln (nI F, nc, K, Z) = .error (nI 3, q.1) := pTT_e hc0 (by rw [pTL, if_pos htl, if_pos ⟨hc80, fun z => absurd (show (0 : Int32) < nI F from z.2) (by rw [show F = 0 from hc55]; decide), fun z => z.1 (by rw [hkc, show kw = 0 from hc43])⟩])
                exact x_fault hF (ctk_le hk) (ctk_8 hk) rfl (Nat.le_of_ble_eq_true rfl) dX0_readsTower_96 dX0_readsTower_99 (fun h => x_ic3 dX0_readsTower_100 h) dX0_readsTower_101 dX0_readsTower_102 dX0_readsTower_105 dX0_readsTower_108 q817 (by omega) (fun x M2 S2 h1 h2 => rtP_e (e := (nI 3, q.1)) hbad (hj.tre h1) h2)
              · refine x_iload_n dX0_readsTower_83 rfl ?_
                refine x_ic1 dX0_readsTower_84 ?_
                refine x_icmpN_ne (tgt := 109) dX0_readsTower_85 (by decide) (by omega) (by omega) (fun hc85 => ?_) (fun hc85 => ?_)
                · refine x_aload_n dX0_readsTower_109 rfl ?_
                  refine k_next hF hW hk (fun z => hc0 z) dX0_readsTower_110 kG_X0_X0_readNext (by omega) (Nat.le_of_ble_eq_true rfl) (fun M1 S1 hj1 hk1 h1 => ?_)
                  have hF1 := LF_gw hF hj1.1
                  have hW1 := WD_gw hF hW hj1.1
                  have hR1 := PR_gw hR hj1.1
                  have hjs1 := hj.tr hj1
                  have hl1 := nxt_lt hk.2.1 (fun z => hc0 z)
                  refine x_iload_n dX0_readsTower_113 rfl ?_
                  refine x_ifN_ne (tgt := 128) dX0_readsTower_114 (by decide) (by omega) (fun z => absurd z (by omega)) (fun hc114 => ?_)
                  refine x_aload_n dX0_readsTower_117 rfl ?_
                  refine x_aload_n dX0_readsTower_118 rfl ?_
                  refine x_ic2 dX0_readsTower_119 ?_
                  refine x_bipush (v := nI 80) dX0_readsTower_120 (by decide) ?_
                  have hkw0 : kw = 0 := hc114
                  subst hkw0
                  have hF0 : F = 0 := hc55
                  have h0F : (nI F : Int32) ≤ 0 := by rw [hF0]; decide
                  refine k_num hF1 hW1 hk1 q817 dX0_readsTower_122 kG_X0_X0_number (by omega) (Nat.le_of_ble_eq_true rfl) (fun h9_0 h7_0 M2 S2 hx2 hk2 h10_2 => ?_) (fun e h8 x M2 S2 h1 h2 => rtP_e (pTT_1e hc0 htl (fun z => hc80 z.1) (by rw [tlR, if_pos hkc]; exact pFl_e (X := (nI F, nc, K, Z)) h0F h8)) (hjs1.tre h1) h2)
                  have hF2 := LF_gw hF1 hx2.1
                  have hW2 := WD_gw hF1 hW1 hx2.1
                  have hR2 := PR_gw hR1 hx2.1
                  have hjs2 := hjs1.tr hx2
                  obtain ⟨F2, f1, f2, f3⟩ := nI_between (by decide) h7_0 (by decide)
                  have hl2 := hx2.2.1
                  refine q_puti 2 0 dX0_readsTower_125 (C := RX2) (T := TX2) (N := 9) rfl (by decide) q211 rfl rfl rfl (show π < fc_nx M2 by have := hR2.1.1; omega) hR2.1.2.1 rfl ?_
                  rw [f3]
                  have hR2 := PR_f (F2 := F2) hR2 f2
                  have hk2 := ctk_tu (x := π) (k := 0) (v := nI F2) hk2 (by omega)
                  have hjs2 := hjs2.tux (x := π) (k := 0) (v := nI F2) (by omega)
                  have hpt : pTT E (k + 1) q ln (nI F, nc, K, Z) = tlS E k (nxt E (nxt E q)) ln (nI F2, nc, K, Z) := pTT_1 (x := (nxt E (nxt E q), nI F2, nc, K, Z)) hc0 htl hc80 (by rw [tlR, if_pos hkc, pFl_k (X := (nI F, nc, K, Z)) h0F h9_0, f3])
                  refine x_iload_n dX0_readsTower_128 rfl ?_
                  refine x_ic1 dX0_readsTower_129 ?_
                  refine x_icmpN_ne (tgt := 138) dX0_readsTower_130 (by decide) (by omega) (by omega) (fun _ => ?_) (fun z => absurd z (by decide))
                  refine x_iload_n dX0_readsTower_138 rfl ?_
                  refine x_ic2 dX0_readsTower_139 ?_
                  refine x_icmpN_ne (tgt := 174) dX0_readsTower_140 (by decide) (by omega) (by omega) (fun _ => ?_) (fun z => absurd z (by decide))
                  rw [hpt]
                  exact b_rt174 hπ0 h9 (fun M S q F nc ln K Z o2 o3 => ih M S q F nc ln K Z) hc80 hF2 hW2 hk2 hjs2 hR2 (by omega)
                · refine x_aload_n dX0_readsTower_88 rfl ?_
                  refine q_geti 2 1 dX0_readsTower_89 (C := RX2) (T := TX2) (N := 9) rfl (by decide) q213 (show π < fc_nx M by have := hR.1.1; omega) hR.1.2.1 rfl hR.2.2.1.1.2.1 ?_
                  refine x_ic4 dX0_readsTower_92 ?_
                  refine x_icmpN_ne (tgt := 109) dX0_readsTower_93 (by decide) (by omega) (by omega) (fun hc93 => ?_) (fun hc93 => ?_)
                  · refine x_aload_n dX0_readsTower_109 rfl ?_
                    refine k_next hF hW hk (fun z => hc0 z) dX0_readsTower_110 kG_X0_X0_readNext (by omega) (Nat.le_of_ble_eq_true rfl) (fun M1 S1 hj1 hk1 h1 => ?_)
                    have hF1 := LF_gw hF hj1.1
                    have hW1 := WD_gw hF hW hj1.1
                    have hR1 := PR_gw hR hj1.1
                    have hjs1 := hj.tr hj1
                    have hl1 := nxt_lt hk.2.1 (fun z => hc0 z)
                    refine x_iload_n dX0_readsTower_113 rfl ?_
                    refine x_ifN_ne (tgt := 128) dX0_readsTower_114 (by decide) (by omega) (fun z => absurd z (by omega)) (fun hc114 => ?_)
                    refine x_aload_n dX0_readsTower_117 rfl ?_
                    refine x_aload_n dX0_readsTower_118 rfl ?_
                    refine x_ic2 dX0_readsTower_119 ?_
                    refine x_bipush (v := nI 80) dX0_readsTower_120 (by decide) ?_
                    have hkw0 : kw = 0 := hc114
                    subst hkw0
                    have hF0 : F = 0 := hc55
                    have h0F : (nI F : Int32) ≤ 0 := by rw [hF0]; decide
                    refine k_num hF1 hW1 hk1 q817 dX0_readsTower_122 kG_X0_X0_number (by omega) (Nat.le_of_ble_eq_true rfl) (fun h9_0 h7_0 M2 S2 hx2 hk2 h10_2 => ?_) (fun e h8 x M2 S2 h1 h2 => rtP_e (pTT_1e hc0 htl (fun z => hc80 z.1) (by rw [tlR, if_pos hkc]; exact pFl_e (X := (nI F, nc, K, Z)) h0F h8)) (hjs1.tre h1) h2)
                    have hF2 := LF_gw hF1 hx2.1
                    have hW2 := WD_gw hF1 hW1 hx2.1
                    have hR2 := PR_gw hR1 hx2.1
                    have hjs2 := hjs1.tr hx2
                    obtain ⟨F2, f1, f2, f3⟩ := nI_between (by decide) h7_0 (by decide)
                    have hl2 := hx2.2.1
                    refine q_puti 2 0 dX0_readsTower_125 (C := RX2) (T := TX2) (N := 9) rfl (by decide) q211 rfl rfl rfl (show π < fc_nx M2 by have := hR2.1.1; omega) hR2.1.2.1 rfl ?_
                    rw [f3]
                    have hR2 := PR_f (F2 := F2) hR2 f2
                    have hk2 := ctk_tu (x := π) (k := 0) (v := nI F2) hk2 (by omega)
                    have hjs2 := hjs2.tux (x := π) (k := 0) (v := nI F2) (by omega)
                    have hpt : pTT E (k + 1) q ln (nI F, nc, K, Z) = tlS E k (nxt E (nxt E q)) ln (nI F2, nc, K, Z) := pTT_1 (x := (nxt E (nxt E q), nI F2, nc, K, Z)) hc0 htl hc80 (by rw [tlR, if_pos hkc, pFl_k (X := (nI F, nc, K, Z)) h0F h9_0, f3])
                    refine x_iload_n dX0_readsTower_128 rfl ?_
                    refine x_ic1 dX0_readsTower_129 ?_
                    refine x_icmpN_ne (tgt := 138) dX0_readsTower_130 (by decide) (by omega) (by omega) (fun _ => ?_) (fun z => absurd z (by decide))
                    refine x_iload_n dX0_readsTower_138 rfl ?_
                    refine x_ic2 dX0_readsTower_139 ?_
                    refine x_icmpN_ne (tgt := 174) dX0_readsTower_140 (by decide) (by omega) (by omega) (fun _ => ?_) (fun z => absurd z (by decide))
                    rw [hpt]
                    exact b_rt174 hπ0 h9 (fun M S q F nc ln K Z o2 o3 => ih M S q F nc ln K Z) hc80 hF2 hW2 hk2 hjs2 hR2 (by omega)
                  · have hkw1 : kw = 1 := hc85
                    subst hkw1
                    have h30 : ¬ q.2.2.1 = nI 30 := fun z => absurd (hkc.symm.trans z) (by decide)
                    have hFn : ¬ nI F = 0 := fun z => absurd ((nI_eq (by omega) (by decide)).mp (show nI F = nI 0 from z)) (by omega)
                    have hbad : pTT E (k + 1) q ln (nI F, nc, K, Z) = .error (nI 3, q.1) := pTT_1e hc0 htl (fun z => hc80 z.1) (by rw [tlR, if_neg h30, if_pos hkc, pCr, if_neg hFn, if_pos hc93])
                    exact x_fault hF (ctk_le hk) (ctk_8 hk) rfl (Nat.le_of_ble_eq_true rfl) dX0_readsTower_96 dX0_readsTower_99 (fun h => x_ic3 dX0_readsTower_100 h) dX0_readsTower_101 dX0_readsTower_102 dX0_readsTower_105 dX0_readsTower_108 q817 (by omega) (fun x M2 S2 h1 h2 => rtP_e (e := (nI 3, q.1)) hbad (hj.tre h1) h2)
      · have htl : ¬ isTl q.2.2.1 := fun z => by
          obtain ⟨m, m1, m2, m3⟩ := nI_between (by decide) z (by decide)
          exact hno (m - 30) (by omega) (by rw [m3, show 30 + (m - 30) = m by omega])
        refine x_istore_n dX0_readsTower_35 (by decide) rfl ?_
        refine x_aload_n dX0_readsTower_36 rfl ?_
        refine x_iload_n dX0_readsTower_37 rfl ?_
        refine x_icm1 dX0_readsTower_38 ?_
        refine x_icmp_eq (tgt := 70) dX0_readsTower_39 (by decide) (fun hc39 => ?_) (fun hc39 => ?_)
        · refine x_ic0 dX0_readsTower_70 ?_
          rw [show nI 0 = bI False by decide]
          exact k_must hF hk q817 dX0_readsTower_71 kG_X0_X0_must (by omega) (Nat.le_of_ble_eq_true rfl) (fun z => z.elim) (fun _ x M2 S2 h1 h2 => rtP_e (e := (nI 1, q.1)) (pTT_e hc0 (by rw [pTL, if_neg htl])) (hj.tre h1) h2)
        · exact absurd rfl hc39
end T99ZZV

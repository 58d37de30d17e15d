set_option maxRecDepth 100000
section T99ZZQ
variable {g : fc_G} {l : Launch} {M M0 : fc_M} {S S0 : tT} {U : tU} {E : tEn} {q : tTk}
set_option maxHeartbeats 2000000 in
theorem m_readsRule {n0 s0 : Nat} {τ : Nat} (hτ0 : fc_nx M0 ≤ τ) (hE : ¬ E.1 = nI 3) (h9 : 9 ≤ fc_nx M0) : ∀ (k : Nat) (M : fc_M) (S : tT) (q : tTk) (ls : List tLn) (ps : tLs) {o2 : Option Value}, LF g M → WD g M → ctk g M S E q → S 0 10 = nI 0 → js M0 S0 M S q.1 → RR g M S τ ls ps ls.length → E.2.2 < q.1 + k → fc_X g l yX0_readsRule cX0_readsRule 3 (Option.some (Jvm.ClassFile.FieldType.object "FourCars$Text")) 40 n0 s0 (cl M S U) 22 [some (.ref (fc_B g + 0)), some (.ref (fc_B g + τ)), o2] [] (rrP g M0 S0 U (pRL E k q ls ps)) := by
  intro k
  induction k with
  | zero => intro M S q ls ps o2 hF hW hk h10 hj hR hfu; exfalso; have := hk.2.1.1; have := hk.2.1.2.1; omega
  | succ k ih =>
    intro M S q ls ps o2 hF hW hk h10 hj hR hfu
    obtain ⟨hT, hV, κ, hA, hRk⟩ := id hk
    have hls := hR.2.2.1.2.1
    refine x_aload_n dX0_readsRule_22 rfl ?_
    refine q_getr 0 6 dX0_readsRule_23 (C := RX0) (T := TX0) (N := 30) rfl (by decide) q401 (show 0 < fc_nx M by have := hF.1; omega) (hF.2.2 0 _ rfl) rfl hA.1 ?_
    refine x_tok 0 dX0_readsRule_26 (by decide) rfl q521 ?_
    refine x_acmpT_eq (tgt := 153) dX0_readsRule_29 (by decide) hA.2.1 (by decide) (fun hκ => ?_) (fun hκ => ?_)
    · have hc0 : q.2.2.1 = 0 := (tokR_end hRk).mp hκ
      refine x_aload_n dX0_readsRule_153 rfl ?_
      exact x_aret dX0_readsRule_154 rfl (Or.inl ⟨_, rfl⟩) (Or.inr ⟨_, rfl⟩) (rrP_k (z := (ls, ps)) (pRL_0 hc0) (hj.fin (ctk_le hk)) hR hτ0)
    · have hc0 : ¬ q.2.2.1 = 0 := fun z => hκ ((tokR_end hRk).mpr z)
      refine x_aload_n dX0_readsRule_32 rfl ?_
      refine x_aload_n dX0_readsRule_33 rfl ?_
      refine q_getr 0 2 dX0_readsRule_34 (C := RX0) (T := TX0) (N := 30) rfl (by decide) q397 (show 0 < fc_nx M by have := hF.1; omega) (hF.2.2 0 _ rfl) rfl (hF.2.1 2 _ rfl) ?_
      refine k_word (r := 2) (N := 2) (c0 := 20) (ix := fun k => k) hF hk (Or.inl ⟨rfl, hE⟩) ru_tb (by decide) (by decide) (show 2 < fc_nx M by have := hF.1; omega) (hF.2.2 2 _ rfl) (fun i hi => ⟨by omega, hW.1 i hi⟩) dX0_readsRule_37 kG_X0_X0_wordOf (by omega) (Nat.le_of_ble_eq_true rfl) (fun kw hkw hkc => ?_) (fun hno => ?_)
      · have hln : isLn q.2.2.1 := by rw [hkc]; exact ⟨(nI_leI (by decide) (by omega)).mpr (by omega), (nI_leI (by omega) (by decide)).mpr (by omega)⟩
        have hwd : q.2.2.1 - nI 20 = nI kw := by rw [hkc, pk_sub (by omega), show 20 + kw - 20 = kw by omega]
        refine x_istore_n dX0_readsRule_40 (by decide) rfl ?_
        refine x_aload_n dX0_readsRule_41 rfl ?_
        refine x_iload_n dX0_readsRule_42 rfl ?_
        refine x_icm1 dX0_readsRule_43 ?_
        refine x_icmp_eq (tgt := 51) dX0_readsRule_44 (by decide) (fun hc44 => ?_) (fun hc44 => ?_)
        · exact absurd hc44 (bO_ne (by omega))
        · refine x_ic1 dX0_readsRule_47 ?_
          refine x_goto (tgt := 52) dX0_readsRule_48 (by decide) ?_
          rw [show nI 1 = bI True by decide]
          refine k_must hF hk q512 dX0_readsRule_52 kG_X0_X0_must (by omega) (Nat.le_of_ble_eq_true rfl) (fun _ => ?_) (fun z => absurd trivial z)
          refine x_aload_n dX0_readsRule_55 rfl ?_
          refine q_geti 1 3 dX0_readsRule_56 (C := RX1) (T := TX1) (N := 4) rfl (by decide) q190 (show τ < fc_nx M by have := hR.1.1; omega) hR.1.2.1 rfl hR.2.2.1.1 ?_
          refine x_bipush (v := nI 16) dX0_readsRule_59 (by decide) ?_
          refine x_icmpN_ne (tgt := 77) dX0_readsRule_61 (by decide) (by omega) (by omega) (fun hc61 => ?_) (fun hc61 => ?_)
          · refine x_aload_n dX0_readsRule_77 rfl ?_
            refine k_next hF hW hk (fun z => hc0 z) dX0_readsRule_78 kG_X0_X0_readNext (by omega) (Nat.le_of_ble_eq_true rfl) (fun M1 S1 hj1 hk1 h1 => ?_)
            have hF1 := LF_gw hF hj1.1
            have hW1 := WD_gw hF hW hj1.1
            have h0s : fc_sh M 0 = .inl 0 := hF.2.2 0 _ rfl
            have hR1 := RR_gw h0s hR hj1.1
            have h16 : ls.length < 16 := by have := hR.2.2.1.2.1; omega
            have hl1 := nxt_lt hk.2.1 (fun z => hc0 z)
            refine x_aload_n dX0_readsRule_81 rfl ?_
            refine q_getr 1 0 dX0_readsRule_82 (C := RX1) (T := TX1) (N := 4) rfl (by decide) q183 (show τ < fc_nx M1 by have := hR1.1.1; omega) hR1.1.2.1 rfl hR1.2.1.1 ?_
            refine x_aload_n dX0_readsRule_85 rfl ?_
            refine q_geti 1 3 dX0_readsRule_86 (C := RX1) (T := TX1) (N := 4) rfl (by decide) q190 (show τ < fc_nx M1 by have := hR1.1.1; omega) hR1.1.2.1 rfl hR1.2.2.1.1 ?_
            refine x_iload_n dX0_readsRule_89 rfl ?_
            refine x_iast dX0_readsRule_90 (show τ + 1 < fc_nx M1 by have := hR1.1.1; omega) hR1.1.2.2.1 (by decide) h16 ?_
            rw [cl_puti (by rw [hR1.1.2.2.1]; rfl)]
            have hR1 := RR_w (v := nI kw) hR1
            have hk1 := ctk_tu (x := τ + 1) (k := ls.length) (v := nI kw) hk1 (by omega)
            have hj1s := (hj.tr hj1).tux (x := τ + 1) (k := ls.length) (v := nI kw) (by omega)
            have h1s : tu S1 (τ + 1) ls.length (nI kw) 0 10 = nI 0 := (if_neg (fun z => by omega)).trans (h1.trans h10)
            have hwS : tu S1 (τ + 1) ls.length (nI kw) (τ + 1) ls.length = nI kw := tu_at
            generalize tu S1 (τ + 1) ls.length (nI kw) = S1 at hR1 hk1 hj1s h1s hwS ⊢
            refine x_iload_n dX0_readsRule_91 rfl ?_
            refine x_ifN_ne (tgt := 108) dX0_readsRule_92 (by decide) (by omega) (fun hc92 => ?_) (fun hc92 => ?_)
            · have hk1w : kw = 1 := by omega
              subst hk1w
              have hco : pCo E q = .ok (nxt E q, []) := by rw [pCo, if_neg (fun z => absurd (hkc.symm.trans z) (by decide))]
              rw [pRL_1 hc0 hln hc61 hco, hwd]
              exact b_rr108 hτ0 hE h9 (fun M S q ls ps o2 => ih M S q ls ps) h16 hF1 hW1 hk1 h1s hj1s ⟨hR1.1, hR1.2.1, hR1.2.2.1, hR1.2.2.2.1, fun i hi1 hi2 => hR1.2.2.2.2 i (by omega) hi2⟩ ⟨⟨hwS, Or.inr rfl⟩, fun z => absurd rfl z⟩ (hR1.2.2.2.2 _ (Nat.le_refl _) h16) (by omega)
            · refine x_aload_n dX0_readsRule_95 rfl ?_
              refine q_getr 1 1 dX0_readsRule_96 (C := RX1) (T := TX1) (N := 4) rfl (by decide) q186 (show τ < fc_nx M1 by have := hR1.1.1; omega) hR1.1.2.1 rfl hR1.2.1.2.1 ?_
              refine x_aload_n dX0_readsRule_99 rfl ?_
              refine q_geti 1 3 dX0_readsRule_100 (C := RX1) (T := TX1) (N := 4) rfl (by decide) q190 (show τ < fc_nx M1 by have := hR1.1.1; omega) hR1.1.2.1 rfl hR1.2.2.1.1 ?_
              refine x_aload_n dX0_readsRule_103 rfl ?_
              have hk0 : kw = 0 := hc92
              subst hk0
              have hco : pCo E q = pSu E (nxt E q) := by rw [pCo, if_pos hkc]
              refine k_P hF1 q512 dX0_readsRule_104 kG_X0_X0_sum kP_X0_sum rfl (by omega) (by decide) (Nat.le_of_ble_eq_true rfl) (d_sum hF1 hW1 hk1 hE h1s) (fun r x M2 S2 hr hj2 hk2 h2 hA => ?_) (fun e x M2 S2 hr hj2 hf => rrP_e (pRL_1e hc0 hln hc61 (hco.trans hr)) (hj1s.tre hj2) hf)
              have hF2 := LF_gw hF1 hj2.1
              have hW2 := WD_gw hF1 hW1 hj2.1
              have h0s1 : fc_sh M1 0 = .inl 0 := hF1.2.2 0 _ rfl
              have hR2 := RR_gw h0s1 hR1 hj2.1
              obtain ⟨hx3, c3, hc3, hs3⟩ := tmI_sh hA
              obtain ⟨rc, hrc1, hrc2⟩ := tm_cast hc3
              refine x_aast dX0_readsRule_107 (show τ + 2 < fc_nx M2 by have := hR2.1.1; omega) hR2.1.2.2.2.1 (by decide) h16 hx3 hs3 hrc1 hrc2 ?_
              rw [cl_putr (by rw [hR2.1.2.2.2.1]; rfl)]
              have hn9 := pSu_n hk1.2.1 hr
              have hn8 := ctk_le hk2
              have hl2 := hj2.2.1
              rw [pRL_1 hc0 hln hc61 (hco.trans hr), hwd]
              have hcF : cF g (fc_put M2 (τ + 2) ls.length (.ref (fc_B g + x))) S2 τ ls.length (nI 0) r.2 := ⟨⟨(hj2.1.2.2.2 _ _ (by have := hR1.1.1; omega) (by omega)).trans hwS, Or.inl rfl⟩, fun _ => ⟨x, ct_ps, tmI_pt2 (nsh hR2.1.2.2.2.1) _ _ _ (tmI_mono _ _ _ _ (by omega) hA), pSu_ok hr⟩⟩
              have hR3 := RR_p2 (v := .ref (fc_B g + x)) hR2
              exact b_rr108 hτ0 hE h9 (fun M S q ls ps o2 => ih M S q ls ps) h16 (LF_pt hF2 (by omega)) (WD_pt hW2 (by omega)) (ctk_put hk2 (by omega)) h2 ((hj1s.tr hj2).put (by omega)) ⟨hR3.1, hR3.2.1, hR3.2.2.1, hR3.2.2.2.1, fun i hi1 hi2 => hR3.2.2.2.2 i (by omega) hi2⟩ hcF (hR3.2.2.2.2 _ (Nat.le_refl _) h16) (by omega)
          · exact x_fault hF (ctk_le hk) (ctk_8 hk) rfl (Nat.le_of_ble_eq_true rfl) dX0_readsRule_64 dX0_readsRule_67 (fun h => x_ic3 dX0_readsRule_68 h) dX0_readsRule_69 dX0_readsRule_70 dX0_readsRule_73 dX0_readsRule_76 q512 (by omega) (fun x M2 S2 h1 h2 => rrP_e (e := (nI 3, q.1)) (pRL_e hc0 (by rw [pLn, if_pos hln, if_pos hc61])) (hj.tre h1) h2)
      · have hln : ¬ isLn q.2.2.1 := fun z => by
          obtain ⟨m, m1, m2, m3⟩ := nI_between (by decide) z (by decide)
          exact hno (m - 20) (by omega) (by rw [m3, show 20 + (m - 20) = m by omega])
        refine x_istore_n dX0_readsRule_40 (by decide) rfl ?_
        refine x_aload_n dX0_readsRule_41 rfl ?_
        refine x_iload_n dX0_readsRule_42 rfl ?_
        refine x_icm1 dX0_readsRule_43 ?_
        refine x_icmp_eq (tgt := 51) dX0_readsRule_44 (by decide) (fun hc44 => ?_) (fun hc44 => ?_)
        · refine x_ic0 dX0_readsRule_51 ?_
          rw [show nI 0 = bI False by decide]
          exact k_must hF hk q512 dX0_readsRule_52 kG_X0_X0_must (by omega) (Nat.le_of_ble_eq_true rfl) (fun z => z.elim) (fun _ x M2 S2 h1 h2 => rrP_e (e := (nI 1, q.1)) (pRL_e hc0 (by rw [pLn, if_neg hln])) (hj.tre h1) h2)
        · exact absurd rfl hc44
theorem kP_X1_init : kPar yX1_init 0 := by decide +kernel
theorem tx_same {k : Nat} (h : 2 ≤ fc_nx M) : (∀ a k, a ≤ 1 → tx1 M S a k = S a k) := fun a k ha => by
  show (if a = fc_nx M + 1 + 2 then _ else if a = fc_nx M + 1 + 1 then _ else if a = fc_nx M + 1 then _ else if a = fc_nx M then _ else S a k) = S a k
  rw [if_neg (by omega), if_neg (by omega), if_neg (by omega), if_neg (by omega)]
set_option maxHeartbeats 1000000 in
theorem d_readsRule (hF : LF g M) (hW : WD g M) (hT : tpR S E.2.1 E.2.2) (hE : ¬ E.1 = nI 3) {v0 : Int32} : fc_CX g l yX0_readsRule cX0_readsRule 3 (Option.some (Jvm.ClassFile.FieldType.object "FourCars$Text")) 40 [.ref (fc_B g + 0)] (cl M S U) (rrP g M S U (pRL E 401 (nxK E.1 E.2.1 E.2.2 0 v0) [] [])) := by
  refine fc_enter (by decide) (Nat.le_of_ble_eq_true rfl) rfl ?_
  have hF1 := LF_gw hF (tx_gw (g := g) (M := M) (S := S))
  have hW1 := WD_gw hF hW (tx_gw (g := g) (M := M) (S := S))
  have h0 := hF.1
  have hg0 := tx_gw (g := g) (M := M) (S := S)
  refine x_newC 1 dX0_readsRule_0 (C := RX1) (T := TX1) (N := 4) rfl q172 q174 q119 kd1a kd1b ?_
  refine x_dup dX0_readsRule_3 rfl ?_
  refine x_I0N (M2 := cl (tx0 g M) (tx1 M S) U) dX0_readsRule_4 q177 q119 q175 q176 rfl kP_X1_init (by omega) (by decide) (Nat.le_of_ble_eq_true rfl) (d_iText (Nat.lt_succ_self _) sh_new) ?_
  refine x_astore_n dX0_readsRule_7 (by decide) rfl ?_
  refine x_aload_n dX0_readsRule_8 rfl ?_
  refine x_ic0 dX0_readsRule_9 ?_
  refine q_puti 0 7 dX0_readsRule_10 (C := RX0) (T := TX0) (N := 30) rfl (by decide) q402 rfl rfl rfl (show 0 < fc_nx (tx0 g M) by rw [tx_nx.1]; omega) (hF1.2.2 0 _ rfl) rfl ?_
  refine x_aload_n dX0_readsRule_13 rfl ?_
  refine x_ic0 dX0_readsRule_14 ?_
  refine q_puti 0 10 dX0_readsRule_15 (C := RX0) (T := TX0) (N := 30) rfl (by decide) q405 rfl rfl rfl (show 0 < fc_nx (tx0 g M) by rw [tx_nx.1]; omega) (hF1.2.2 0 _ rfl) rfl ?_
  refine x_aload_n dX0_readsRule_18 rfl ?_
  have hs1 := tx_same (k := 0) (M := M) (S := S) (by omega)
  have hT1 : tpR (tu (tu (tx1 M S) 0 7 (nI 0)) 0 10 (nI 0)) E.2.1 E.2.2 := ⟨(hs1 0 1 (by decide)).trans hT.1, hT.2.1, fun k hk => by rw [show (tu (tu (tx1 M S) 0 7 (nI 0)) 0 10 (nI 0)) 1 k = S 1 k from hs1 1 k (by decide)]; exact hT.2.2 k hk⟩
  have hg3 : gw M S (tx0 g M) (tu (tu (tx1 M S) 0 7 (nI 0)) 0 10 (nI 0)) := ⟨hg0.1, hg0.2.1, hg0.2.2.1, fun a k ha hk => (if_neg (fun z => hk (by omega))).trans ((if_neg (fun z => hk (by omega))).trans (hg0.2.2.2 a k ha hk))⟩
  refine k_first (E := E) (v0 := v0) hF1 hW1 hT1 rfl dX0_readsRule_19 kG_X0_X0_readNext (by omega) (Nat.le_of_ble_eq_true rfl) (fun M1 S1 hg hn1 hs9 hk h10 => ?_)
  have hF2 := LF_gw hF1 hg
  have hW2 := WD_gw hF1 hW1 hg
  have hRR : RR g (tx0 g M) (tu (tu (tx1 M S) 0 7 (nI 0)) 0 10 (nI 0)) (fc_nx M) [] [] 0 := by
    have z := tx_RR (g := g) (M := M) (S := S) (by omega)
    exact ⟨z.1, z.2.1, ⟨(if_neg (fun y => by omega)).trans ((if_neg (fun y => by omega)).trans z.2.2.1.1), z.2.2.1.2⟩, fun i l hi => (by cases hi), z.2.2.2.2⟩
  exact m_readsRule (Nat.le_refl _) hE (by omega) 401 M1 S1 _ [] [] hF2 hW2 hk (h10.trans rfl) ⟨hg3.tr hg, by rw [hn1, tx_nx.1]; omega, by rw [hs9, tx_nx.2]; omega⟩ (RR_gw (hF1.2.2 0 _ rfl) hRR hg) (by have := hT.2.1; omega)
end T99ZZQ

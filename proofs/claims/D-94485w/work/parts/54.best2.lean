set_option maxRecDepth 100000
section T54
variable {g : fc_G} {l : Launch} {M : fc_M} {T : tT} {w : Nat → Int32}
def SimH (T T2 : tT) : Prop := ∀ a k, a ≠ 8 → a ≠ 9 → a ≠ 3 → a ≠ 11 → a ≠ 12 → ¬ (a = 0 ∧ k = 26) → ¬ (a = 0 ∧ k = 31) → ¬ (a = 0 ∧ k = 33) → T2 a k = T a k
def bsQ (T : tT) (ps n f nC : Nat) (x : Int32) (w : Nat → Int32) : Int32 := if (nI 1 ≤ w 2 ∧ w 2 ≤ nI 6) ∧ (nI 1 ≤ w 1 ∧ w 1 ≤ nI 3) ∧ g1L w nC (nC + 1) 0 = true ∧ g2L w n (n + 1) 0 = true then (if x = 0 ∨ (nI 10 ≤ x ∧ x ≤ nI 9 + w 2) then
    (if (tgR (fun tr => secW (some tr) (T 0 29) ps n f (wN w 4) (nlW w (wN w 4)) nC) w n nC n 0 (T 11, T 12, -1)).2.2 = -1 then -1 else if x = 0 then (tgR (fun tr => secW (some tr) (T 0 29) ps n f (wN w 4) (nlW w (wN w 4)) nC) w n nC n 0 (T 11, T 12, -1)).2.2 else (tgR (fun tr => secW (some tr) (T 0 29) ps n f (wN w 4) (nlW w (wN w 4)) nC) w n nC n 0 (T 11, T 12, -1)).2.1 (x.toNatClampNeg - 10)) else -1) else -1
theorem kG_X6_X6_canGive : GoodIn lw_all (wsV RX6 371 RX6 yX6_canGive (ws_ yX6_canGive cX6_canGive 2 (some .boolean))) := lw_V q1566 q1568 qs106 q124 q1569
theorem kP_X6_canGive : kPar yX6_canGive 0 := by decide +kernel
set_option maxHeartbeats 1000000 in
theorem c_best (hM : tw0 + 17 ≤ fc_nx M) {n f nC ps : Nat} (hG : GI w n f nC) (hps : T 0 30 = nI ps) (hpl : ps < 80) (h28 : T 0 28 = 0) {x : Int32} : fc_CX g l yX6_best cX6_best 2 (some .int) 21 [.ref (fc_B g + tw0), .int x] (tv g M T w) (tv_i g M (fun r T2 w2 => SimH T T2 ∧ w2 = w ∧ r = bsQ T ps n f nC x w)) := by
  refine fc_enter (by decide) (Nat.le_of_ble_eq_true rfl) rfl ?_
  have hC := hG.1.2.2
  have hF := hG.1.2.1
  have hN := hG.1.1
  obtain ⟨rr, hr, h4⟩ := hG.2.2.2.2.1
  have hrr : wN w 4 = rr := by rw [wN, h4, nI_clamp (by omega)]
  refine x_aload_n dX6_best_0 rfl ?_
  refine v_V0ie hM dX6_best_1 kG_X6_X6_canGive kP_X6_canGive rfl (by omega) (by decide) (Nat.le_of_ble_eq_true rfl) (c_canGive hM hG) ?_
  refine x_ifB_eq (tgt := 29) dX6_best_4 (by decide) (fun hc4 => ?_) (fun hc4 => ?_)
  · refine x_icm1 dX6_best_29 ?_
    exact x_iret dX6_best_30 rfl rfl (tv_ip ⟨fun _ _ _ _ _ _ _ _ _ _ => rfl, rfl, by rw [bsQ, if_neg hc4]⟩)
  · refine x_iload_n dX6_best_7 rfl ?_
    refine x_if_eq (tgt := 31) dX6_best_8 (by decide) (fun hc8 => ?_) (fun hc8 => ?_)
    · skip
      · refine x_aload_n dX6_best_31 rfl ?_
        refine v_V0ve hM dX6_best_32 kG_X6_X6_setsOut kP_X6_setsOut rfl (by omega) (by decide) (Nat.le_of_ble_eq_true rfl) (c_setsOut hM) ?_
        refine x_aload_n dX6_best_35 rfl ?_
        refine x_ic1 dX6_best_36 ?_
        refine v_puti 28 hM dX6_best_37 (by decide) rfl q1158 rfl rfl rfl ?_
        refine x_aload_n dX6_best_40 rfl ?_
        refine x_icm1 dX6_best_41 ?_
        refine v_puti 33 hM dX6_best_42 (by decide) rfl q1163 rfl rfl rfl ?_
        refine x_aload_n dX6_best_45 rfl ?_
        refine x_ic0 dX6_best_46 ?_
        have hn6 : n ≤ 6 := by
          have h := hc4.1.2
          rw [hG.2.2.2.1] at h
          exact (nI_leI (by omega) (by decide)).mp h
        refine v_V1v hM dX6_best_47 kG_X6_X6_triesGiving kP_X6_triesGiving rfl (by omega) (by decide) (Nat.le_of_ble_eq_true rfl) (c_tries (T0 := (tu (tu (t3 T (mixW 1300 w (T 3))) 0 28 (nI 1)) 0 33 (-1))) (B := T 3) hM hG hn6 hr h4 hpl rfl rfl hps n 0 (tu (tu (t3 T (mixW 1300 w (T 3))) 0 28 (nI 1)) 0 33 (-1)) (T 11, T 12, -1) (by omega) SimG.rf ⟨rfl, rfl, rfl⟩) (fun T5 w5 q5 => ?_)
        obtain ⟨hS5, e5, hg5⟩ := q5
        rw [e5]
        have hbq : ∀ y : Int32, (y = 0 ∨ (nI 10 ≤ y ∧ y ≤ nI 9 + w 2)) → bsQ T ps n f nC y w = (if (tgR (fun tr => secW (some tr) (T 0 29) ps n f rr (nlW w rr) nC) w n nC n 0 (T 11, T 12, -1)).2.2 = -1 then -1 else if y = 0 then (tgR (fun tr => secW (some tr) (T 0 29) ps n f rr (nlW w rr) nC) w n nC n 0 (T 11, T 12, -1)).2.2 else (tgR (fun tr => secW (some tr) (T 0 29) ps n f rr (nlW w rr) nC) w n nC n 0 (T 11, T 12, -1)).2.1 (y.toNatClampNeg - 10)) := fun y hy => by rw [bsQ, if_pos hc4, if_pos hy, hrr]
        change gS T5 (tgR (fun tr => secW (some tr) (T 0 29) ps n f rr (nlW w rr) nC) w n nC n 0 (T 11, T 12, -1)) at hg5
        generalize tgR (fun tr => secW (some tr) (T 0 29) ps n f rr (nlW w rr) nC) w n nC n 0 (T 11, T 12, -1) = S at hg5 hbq
        have hSH : SimH T (tu T5 0 28 (nI 0)) := by
          intro a k a1 a2 a3 a4 a5 a6 a7 a8
          by_cases h : a = 0 ∧ k = 28
          · rw [tu, if_pos h, h.1, h.2, h28]; rfl
          · rw [tu, if_neg h, hS5 a k a1 a2 a4 a5 a6 a7 a8, tu, if_neg (fun z => a8 z), tu, if_neg h]
            exact if_neg a3
        refine x_aload_n dX6_best_50 rfl ?_
        refine x_ic0 dX6_best_51 ?_
        refine v_puti 28 hM dX6_best_52 (by decide) rfl q1158 rfl rfl rfl ?_
        refine x_aload_n dX6_best_55 rfl ?_
        refine v_geti 33 hM dX6_best_56 (by decide) rfl q1163 ?_
        refine x_top (show (tu T5 0 28 (nI 0)) 0 33 = S.2.2 from hg5.2.2) ?_
        refine x_icm1 dX6_best_59 ?_
        refine x_icmp_ne (tgt := 67) dX6_best_60 (by decide) (fun hc60 => ?_) (fun hc60 => ?_)
        · refine x_iload_n dX6_best_67 rfl ?_
          refine x_if_ne (tgt := 78) dX6_best_68 (by decide) (fun hc68 => ?_) (fun hc68 => ?_)
          · exact absurd hc8 hc68
          · refine x_aload_n dX6_best_71 rfl ?_
            refine v_geti 33 hM dX6_best_72 (by decide) rfl q1163 ?_
            refine x_top (show (tu T5 0 28 (nI 0)) 0 33 = S.2.2 from hg5.2.2) ?_
            refine x_goto (tgt := 87) dX6_best_75 (by decide) ?_
            exact x_iret dX6_best_87 rfl rfl (tv_ip ⟨hSH, rfl, by rw [hbq _ (Or.inl hc8), if_neg hc60, if_pos hc8]⟩)
        · refine x_icm1 dX6_best_63 ?_
          refine x_goto (tgt := 87) dX6_best_64 (by decide) ?_
          exact x_iret dX6_best_87 rfl rfl (tv_ip ⟨hSH, rfl, by rw [hbq _ (Or.inl hc8), if_pos hc60]⟩)
    · refine x_iload_n dX6_best_11 rfl ?_
      refine x_bipush (v := nI 10) dX6_best_12 (by decide) ?_
      refine x_bipush (v := nI 9) dX6_best_14 (by decide) ?_
      refine x_aload_n dX6_best_16 rfl ?_
      refine v_geta 0 hM dX6_best_17 (by decide) rfl q1130 ?_
      refine x_ic2 dX6_best_20 ?_
      refine v_wld hM dX6_best_21 rfl (by omega) ?_
      refine x_iadd dX6_best_22 ?_
      refine v_S3ie dX6_best_23 kG_X6_X6_isIn kP_X6_isIn (by omega) (by decide) (Nat.le_of_ble_eq_true rfl) c_isIn ?_
      refine x_ifB_ne (tgt := 31) dX6_best_26 (by decide) (fun hc26 => ?_) (fun hc26 => ?_)
      · skip
        · refine x_aload_n dX6_best_31 rfl ?_
          refine v_V0ve hM dX6_best_32 kG_X6_X6_setsOut kP_X6_setsOut rfl (by omega) (by decide) (Nat.le_of_ble_eq_true rfl) (c_setsOut hM) ?_
          refine x_aload_n dX6_best_35 rfl ?_
          refine x_ic1 dX6_best_36 ?_
          refine v_puti 28 hM dX6_best_37 (by decide) rfl q1158 rfl rfl rfl ?_
          refine x_aload_n dX6_best_40 rfl ?_
          refine x_icm1 dX6_best_41 ?_
          refine v_puti 33 hM dX6_best_42 (by decide) rfl q1163 rfl rfl rfl ?_
          refine x_aload_n dX6_best_45 rfl ?_
          refine x_ic0 dX6_best_46 ?_
          have hn6 : n ≤ 6 := by
            have h := hc4.1.2
            rw [hG.2.2.2.1] at h
            exact (nI_leI (by omega) (by decide)).mp h
          refine v_V1v hM dX6_best_47 kG_X6_X6_triesGiving kP_X6_triesGiving rfl (by omega) (by decide) (Nat.le_of_ble_eq_true rfl) (c_tries (T0 := (tu (tu (t3 T (mixW 1300 w (T 3))) 0 28 (nI 1)) 0 33 (-1))) (B := T 3) hM hG hn6 hr h4 hpl rfl rfl hps n 0 (tu (tu (t3 T (mixW 1300 w (T 3))) 0 28 (nI 1)) 0 33 (-1)) (T 11, T 12, -1) (by omega) SimG.rf ⟨rfl, rfl, rfl⟩) (fun T5 w5 q5 => ?_)
          obtain ⟨hS5, e5, hg5⟩ := q5
          rw [e5]
          have hbq : ∀ y : Int32, (y = 0 ∨ (nI 10 ≤ y ∧ y ≤ nI 9 + w 2)) → bsQ T ps n f nC y w = (if (tgR (fun tr => secW (some tr) (T 0 29) ps n f rr (nlW w rr) nC) w n nC n 0 (T 11, T 12, -1)).2.2 = -1 then -1 else if y = 0 then (tgR (fun tr => secW (some tr) (T 0 29) ps n f rr (nlW w rr) nC) w n nC n 0 (T 11, T 12, -1)).2.2 else (tgR (fun tr => secW (some tr) (T 0 29) ps n f rr (nlW w rr) nC) w n nC n 0 (T 11, T 12, -1)).2.1 (y.toNatClampNeg - 10)) := fun y hy => by rw [bsQ, if_pos hc4, if_pos hy, hrr]
          change gS T5 (tgR (fun tr => secW (some tr) (T 0 29) ps n f rr (nlW w rr) nC) w n nC n 0 (T 11, T 12, -1)) at hg5
          generalize tgR (fun tr => secW (some tr) (T 0 29) ps n f rr (nlW w rr) nC) w n nC n 0 (T 11, T 12, -1) = S at hg5 hbq
          have hSH : SimH T (tu T5 0 28 (nI 0)) := by
            intro a k a1 a2 a3 a4 a5 a6 a7 a8
            by_cases h : a = 0 ∧ k = 28
            · rw [tu, if_pos h, h.1, h.2, h28]; rfl
            · rw [tu, if_neg h, hS5 a k a1 a2 a4 a5 a6 a7 a8, tu, if_neg (fun z => a8 z), tu, if_neg h]
              exact if_neg a3
          refine x_aload_n dX6_best_50 rfl ?_
          refine x_ic0 dX6_best_51 ?_
          refine v_puti 28 hM dX6_best_52 (by decide) rfl q1158 rfl rfl rfl ?_
          refine x_aload_n dX6_best_55 rfl ?_
          refine v_geti 33 hM dX6_best_56 (by decide) rfl q1163 ?_
          refine x_top (show (tu T5 0 28 (nI 0)) 0 33 = S.2.2 from hg5.2.2) ?_
          refine x_icm1 dX6_best_59 ?_
          refine x_icmp_ne (tgt := 67) dX6_best_60 (by decide) (fun hc60 => ?_) (fun hc60 => ?_)
          · refine x_iload_n dX6_best_67 rfl ?_
            refine x_if_ne (tgt := 78) dX6_best_68 (by decide) (fun hc68 => ?_) (fun hc68 => ?_)
            · rw [hG.2.2.2.1, nI_add] at hc26
              obtain ⟨k, hk0, hk, rfl⟩ := nI_between (by omega) hc26 (by decide)
              rw [← nI_add, ← hG.2.2.2.1] at hc26
              · refine x_aload_n dX6_best_78 rfl ?_
                refine v_geta 32 hM dX6_best_79 (by decide) rfl q1162 ?_
                refine x_iload_n dX6_best_82 rfl ?_
                refine x_bipush (v := nI 10) dX6_best_83 (by decide) ?_
                refine x_isubN dX6_best_85 (by omega) ?_
                refine v_iald 12 hM dX6_best_86 (by decide) (by decide) rfl rfl (by show _ < 60; omega) ?_
                exact x_iret dX6_best_87 rfl rfl (tv_ip ⟨hSH, rfl, by rw [hbq _ (Or.inr hc26), if_neg hc60, if_neg hc8, nI_clamp (by omega)]; exact congrFun hg5.2.1 _⟩)
            · exact absurd hc68 hc8
          · refine x_icm1 dX6_best_63 ?_
            refine x_goto (tgt := 87) dX6_best_64 (by decide) ?_
            exact x_iret dX6_best_87 rfl rfl (tv_ip ⟨hSH, rfl, by rw [hbq _ (Or.inr hc26), if_pos hc60]⟩)
      · refine x_icm1 dX6_best_29 ?_
        exact x_iret dX6_best_30 rfl rfl (tv_ip ⟨fun _ _ _ _ _ _ _ _ _ _ => rfl, rfl, by rw [bsQ, if_pos hc4, if_neg (fun z => z.elim hc8 hc26)]⟩)
end T54

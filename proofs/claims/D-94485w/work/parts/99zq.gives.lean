set_option maxRecDepth 100000
section T99ZQ
variable {g : fc_G} {l : Launch} {M : fc_M} {S : tT} {U : tU} {w v : Nat → Int32} {π f nC n : Nat} {τ : Nat → Nat}
set_option maxHeartbeats 1000000 in
theorem m_canGive2 {n0 s0 : Nat} (hL : LT g M 32) (hO : PC g M S π 32 f nC w) (hn : n ≤ 60) (hw : w 2 = nI n) (hC : nC ≤ 4) (ho : ∀ c, c < nC → w (10 + 20 * c + 4) = 0 ∨ w (10 + 20 * c + 4) = nI 1) : ∀ (k c : Nat), c ≤ nC → nC < c + k → fc_X g l yX0_canGive cX0_canGive 2 (some .boolean) 3 n0 s0 (cR M S U 32 w) 88 [some (.ref (fc_B g + 0)), some (.int (nI c))] [] (fc_re (bI (g1L w nC k c = true)) (cR M S U 32 w)) := by
  intro k
  induction k with
  | zero => intro c h1 h2; omega
  | succ k ih =>
    intro c h1 h2
    refine x_iload_n dX0_canGive_88 rfl ?_
    refine x_aload_n dX0_canGive_89 rfl ?_
    refine k_plan hO dX0_canGive_90 q410 ?_
    refine k_plF 1 (nI nC) hO (Or.inr (Or.inl ⟨rfl, rfl⟩)) dX0_canGive_93 q213 ?_
    refine x_icmpN_ge (tgt := 122) dX0_canGive_96 (by decide) (by omega) (by omega) (fun hc96 => ?_) (fun hc96 => ?_)
    · refine x_ic1 dX0_canGive_122 ?_
      rw [g1L, if_neg (Nat.not_lt.mpr hc96)]
      exact x_iret dX0_canGive_123 rfl (by rfl) (fc_re.of2 (bI_t rfl).symm rfl)
    · refine x_aload_n dX0_canGive_99 rfl ?_
      refine k_Fref 17 hO.1 rfl (by decide) rfl dX0_canGive_100 q415 ?_
      refine k_cars 1 rfl hL dX0_canGive_103 q350 ?_
      refine x_iload_n dX0_canGive_106 rfl ?_
      refine k_cald hL dX0_canGive_107 (by omega) ?_
      refine k_cget 5 4 rfl hL dX0_canGive_108 (by decide) q325 (by omega) ?_
      refine x_if_eq (tgt := 116) dX0_canGive_111 (by decide) (fun hc111 => ?_) (fun hc111 => ?_)
      · refine x_iincN (n := 1) dX0_canGive_116 (by decide) rfl (by decide) rfl ?_
        refine x_goto (tgt := 88) dX0_canGive_119 (by decide) ?_
        rw [g1L, if_pos hc96, if_neg (fun z => absurd (hc111.symm.trans z) (by decide))]
        exact ih (c + 1) (by omega) (by omega)
      · refine x_ic0 dX0_canGive_114 ?_
        rw [g1L, if_pos hc96, if_pos ((ho c hc96).resolve_left hc111)]
        exact x_iret dX0_canGive_115 rfl (by rfl) (fc_re.of2 (bI_f (by decide)).symm rfl)
set_option maxHeartbeats 1000000 in
theorem m_canGive1 {n0 s0 : Nat} (hL : LT g M 32) (hO : PC g M S π 32 f nC w) (hn : n ≤ 60) (hw : w 2 = nI n) (hC : nC ≤ 4) (ho : ∀ c, c < nC → w (10 + 20 * c + 4) = 0 ∨ w (10 + 20 * c + 4) = nI 1) : ∀ (k i : Nat), i ≤ n → n < i + k → fc_X g l yX0_canGive cX0_canGive 2 (some .boolean) 3 n0 s0 (cR M S U 32 w) 35 [some (.ref (fc_B g + 0)), some (.int (nI i))] [] (fc_re (bI (g2L w n k i = true ∧ g1L w nC (nC + 1) 0 = true)) (cR M S U 32 w)) := by
  intro k
  induction k with
  | zero => intro i h1 h2; omega
  | succ k ih =>
    intro i h1 h2
    refine x_iload_n dX0_canGive_35 rfl ?_
    refine x_aload_n dX0_canGive_36 rfl ?_
    refine k_Fref 17 hO.1 rfl (by decide) rfl dX0_canGive_37 q415 ?_
    refine k_tget 2 hL dX0_canGive_40 (by decide) q352 ?_
    refine x_top hw ?_
    refine x_icmpN_ge (tgt := 86) dX0_canGive_43 (by decide) (by omega) (by omega) (fun hc43 => ?_) (fun hc43 => ?_)
    · refine x_ic0 dX0_canGive_86 ?_
      refine x_istore_n dX0_canGive_87 (by decide) rfl ?_
      rw [g2L, if_neg (Nat.not_lt.mpr hc43), bI_congr (q := g1L w nC (nC + 1) 0 = true) ⟨fun z => z.2, fun z => ⟨rfl, z⟩⟩]
      exact m_canGive2 hL hO hn hw hC ho (nC + 1) 0 (by omega) (by omega)
    · refine x_aload_n dX0_canGive_46 rfl ?_
      refine k_Fref 17 hO.1 rfl (by decide) rfl dX0_canGive_47 q415 ?_
      refine k_people 0 rfl hL dX0_canGive_50 q348 ?_
      refine x_iload_n dX0_canGive_53 rfl ?_
      refine k_pald hL dX0_canGive_54 (by omega) ?_
      refine k_pget 3 hL dX0_canGive_55 (by decide) q278 (by omega) ?_
      refine x_ic1 dX0_canGive_58 ?_
      refine x_icmp_gt (tgt := 78) dX0_canGive_59 (by decide) (fun hc59 => ?_) (fun hc59 => ?_)
      · refine x_ic0 dX0_canGive_78 ?_
        rw [g2L, if_pos hc43, if_pos hc59]
        exact x_iret dX0_canGive_79 rfl (by rfl) (fc_re.of2 (bI_f (fun z => absurd z.1 (by decide))).symm rfl)
      · refine x_aload_n dX0_canGive_62 rfl ?_
        refine k_Fref 17 hO.1 rfl (by decide) rfl dX0_canGive_63 q415 ?_
        refine k_people 0 rfl hL dX0_canGive_66 q348 ?_
        refine x_iload_n dX0_canGive_69 rfl ?_
        refine k_pald hL dX0_canGive_70 (by omega) ?_
        refine k_pget 4 hL dX0_canGive_71 (by decide) q281 (by omega) ?_
        refine x_icm1 dX0_canGive_74 ?_
        refine x_icmp_eq (tgt := 80) dX0_canGive_75 (by decide) (fun hc75 => ?_) (fun hc75 => ?_)
        · refine x_iincN (n := 1) dX0_canGive_80 (by decide) rfl (by decide) rfl ?_
          refine x_goto (tgt := 35) dX0_canGive_83 (by decide) ?_
          rw [g2L, if_pos hc43, if_neg hc59, if_pos hc75]
          exact ih (i + 1) (by omega) (by omega)
        · refine x_ic0 dX0_canGive_78 ?_
          rw [g2L, if_pos hc43, if_neg hc59, if_neg hc75]
          exact x_iret dX0_canGive_79 rfl (by rfl) (fc_re.of2 (bI_f (fun z => absurd z.1 (by decide))).symm rfl)
set_option maxHeartbeats 1000000 in
theorem d_canGive (hL : LT g M 32) (hO : PC g M S π 32 f nC w) (hn : n ≤ 60) (hw : w 2 = nI n) (hC : nC ≤ 4) (ho : ∀ c, c < nC → w (10 + 20 * c + 4) = 0 ∨ w (10 + 20 * c + 4) = nI 1) : fc_CX g l yX0_canGive cX0_canGive 2 (some .boolean) 3 [.ref (fc_B g + 0)] (cR M S U 32 w) (fc_re (bI ((nI 1 ≤ w 2 ∧ w 2 ≤ nI 6) ∧ (nI 1 ≤ nI nC ∧ nI nC ≤ nI 3) ∧ g2L w n (n + 1) 0 = true ∧ g1L w nC (nC + 1) 0 = true)) (cR M S U 32 w)) := by
  refine fc_enter (by decide) (Nat.le_of_ble_eq_true rfl) rfl ?_
  refine x_aload_n dX0_canGive_0 rfl ?_
  refine k_Fref 17 hO.1 rfl (by decide) rfl dX0_canGive_1 q415 ?_
  refine k_tget 2 hL dX0_canGive_4 (by decide) q352 ?_
  refine x_ic1 dX0_canGive_7 ?_
  refine x_bipush (v := nI 6) dX0_canGive_8 (by decide) ?_
  refine k_S3i dX0_canGive_10 kG_X0_X0_isIn kP_X0_isIn (by omega) (by decide) (Nat.le_of_ble_eq_true rfl) d_isIn ?_
  refine x_ifB_eq (tgt := 31) dX0_canGive_13 (by decide) (fun hc13 => ?_) (fun hc13 => ?_)
  · refine x_ic0 dX0_canGive_31 ?_
    exact x_iret dX0_canGive_32 rfl (by rfl) (fc_re.of2 (bI_f (fun z => hc13 z.1)).symm rfl)
  · refine x_aload_n dX0_canGive_16 rfl ?_
    refine k_plan hO dX0_canGive_17 q410 ?_
    refine k_plF 1 (nI nC) hO (Or.inr (Or.inl ⟨rfl, rfl⟩)) dX0_canGive_20 q213 ?_
    refine x_ic1 dX0_canGive_23 ?_
    refine x_ic3 dX0_canGive_24 ?_
    refine k_S3i dX0_canGive_25 kG_X0_X0_isIn kP_X0_isIn (by omega) (by decide) (Nat.le_of_ble_eq_true rfl) d_isIn ?_
    refine x_ifB_ne (tgt := 33) dX0_canGive_28 (by decide) (fun hc28 => ?_) (fun hc28 => ?_)
    · refine x_ic0 dX0_canGive_33 ?_
      refine x_istore_n dX0_canGive_34 (by decide) rfl ?_
      rw [bI_congr (q := g2L w n (n + 1) 0 = true ∧ g1L w nC (nC + 1) 0 = true) ⟨fun z => z.2.2, fun z => ⟨hc13, hc28, z⟩⟩]
      exact m_canGive1 hL hO hn hw hC ho (n + 1) 0 (by omega) (by omega)
    · refine x_ic0 dX0_canGive_31 ?_
      exact x_iret dX0_canGive_32 rfl (by rfl) (fc_re.of2 (bI_f (fun z => hc28 z.2.1)).symm rfl)
def svD (w : Nat → Int32) (c p : Nat) : Bool := decide (w (100 + 80 * c + wN w (820 + 8 * p + 1)) = nI 1 ∧ w (100 + 80 * c + wN w (820 + 8 * p + 2)) = nI 1)
def gvL (w : Nat → Int32) (nC : Nat) : Nat → Nat → (Nat → Int32) → Bool → (Nat → Int32) × Bool
  | 0, _, A, c => (A, c)
  | j + 1, q, A, c => gvL w nC j (q / nC) (up A j (nI (q % nC))) (c && svD w (q % nC) j)
theorem bI_and {c : Bool} {P : Prop} [Decidable P] : bI (c = true) &&& bI P = bI ((c && decide P) = true) := by
  cases c
  · rw [bI_f (show ¬ (false = true) by decide), bI_f (show ¬ ((false && decide P) = true) by simp)]
    by_cases h : P
    · rw [bI_t h]; rfl
    · rw [bI_f h]; rfl
  · rw [bI_t rfl]
    by_cases h : P
    · rw [bI_t h, bI_t (by simp [h])]; rfl
    · rw [bI_f h, bI_f (by simp [h])]; rfl
theorem kG_X0_X2_serves : GoodIn lw_all (wsV RX0 461 RX2 yX2_serves (ws_ yX2_serves cX2_serves 4 (some .boolean))) := lw_V q1061 q881 q882 q120 q883
set_option maxHeartbeats 1000000 in
theorem m_gives {n0 s0 : Nat} (hL : LT g M 32) (hO0 : PC g M S π 32 f nC w) (hp : plA π) (hn : n ≤ 6) (hPI : PI w n f) (hf : f ≤ 80) (hC0 : 0 < nC) (hC : nC ≤ 4) {x1 : Int32} : ∀ (k j q : Nat) (A : Nat → Int32) (c : Bool), j ≤ n → j < k → q < 100000 → fc_X g l yX0_gives cX0_gives 5 (some .boolean) 2 n0 s0 (cR M (stA S 233 A) U 32 w) 15 [some (.ref (fc_B g + 0)), some (.int x1), some (.int (nI q)), some (.int (bI (c = true))), some (.int (nI j - nI 1))] [] (fc_re (bI ((gvL w nC j q A c).2 = true)) (cR M (stA S 233 (gvL w nC j q A c).1) U 32 w)) := by
  intro k
  induction k with
  | zero => intro j q A c h1 h2 hq; omega
  | succ k ih =>
    intro j q A c h1 h2 hq
    have hO : PC g M (stA S 233 A) π 32 f nC w := PC_off hO0 (fun a k a1 a2 => stA_n (by rcases hp with e | e <;> omega))
    have hdv : q / nC ≤ q := Nat.div_le_self _ _
    rcases Nat.eq_zero_or_pos j with hj | hj
    · subst hj
      refine x_iload dX0_gives_15 rfl ?_
      refine x_if_lt (tgt := 95) dX0_gives_17 (by decide) (fun hc17 => ?_) (fun hc17 => ?_)
      · refine x_iload_n dX0_gives_95 rfl ?_
        rw [gvL]
        exact x_iret dX0_gives_96 rfl bI_nar fc_re.of
      · exact absurd (by decide : nI 0 - nI 1 < 0) hc17
    · obtain ⟨i, rfl⟩ : ∃ i, j = i + 1 := ⟨j - 1, by omega⟩
      rw [show nI (i + 1) - nI 1 = nI i by rw [pk_sub (by omega), Nat.add_sub_cancel]]
      obtain ⟨a9, b9, ha9, hb9, hfa, hfb, -⟩ := hPI i (by omega)
      refine x_iload dX0_gives_15 rfl ?_
      refine x_ifN_lt (tgt := 95) dX0_gives_17 (by decide) (by omega) ?_
      refine x_aload_n dX0_gives_20 rfl ?_
      refine k_Fref 20 hO.1 rfl (by decide) rfl dX0_gives_21 q418 ?_
      refine x_iload dX0_gives_24 rfl ?_
      refine x_iload_n dX0_gives_26 rfl ?_
      refine x_aload_n dX0_gives_27 rfl ?_
      refine k_plan hO dX0_gives_28 q410 ?_
      refine k_plF 1 (nI nC) hO (Or.inr (Or.inl ⟨rfl, rfl⟩)) dX0_gives_31 q213 ?_
      refine x_iremN dX0_gives_34 (by omega) hC0 (by omega) ?_
      refine k_ast (a := 233) dX0_gives_35 (show 233 < fc_nx M by have := hO.1.1; omega) (hO.1.2.2 233 _ rfl) (by decide) (by omega) (by omega) ?_
      rw [stA_tu]
      have hO : PC g M (stA S 233 (up A i (nI (q % nC)))) π 32 f nC w := PC_off hO0 (fun a k a1 a2 => stA_n (by rcases hp with e | e <;> omega))
      refine x_iload_n dX0_gives_36 rfl ?_
      refine x_aload_n dX0_gives_37 rfl ?_
      refine k_plan hO dX0_gives_38 q410 ?_
      refine k_plF 1 (nI nC) hO (Or.inr (Or.inl ⟨rfl, rfl⟩)) dX0_gives_41 q213 ?_
      refine x_idivN dX0_gives_44 (by omega) hC0 (by omega) ?_
      refine x_istore_n dX0_gives_45 (by decide) rfl ?_
      refine x_iload_n dX0_gives_46 rfl ?_
      refine x_aload_n dX0_gives_47 rfl ?_
      refine k_plan hO dX0_gives_48 q410 ?_
      refine x_aload_n dX0_gives_51 rfl ?_
      refine k_Fref 20 hO.1 rfl (by decide) rfl dX0_gives_52 q418 ?_
      refine x_iload dX0_gives_55 rfl ?_
      refine k_ald (a := 233) dX0_gives_57 (show 233 < fc_nx M by have := hO.1.1; omega) (hO.1.2.2 233 _ rfl) (by decide) (by omega) (by omega) ?_
      refine x_top (w := nI (q % nC)) (by rw [stA_s, up_s]) ?_
      refine x_aload_n dX0_gives_58 rfl ?_
      refine k_Fref 17 hO.1 rfl (by decide) rfl dX0_gives_59 q415 ?_
      refine k_people 0 rfl hL dX0_gives_62 q348 ?_
      refine x_iload dX0_gives_65 rfl ?_
      refine k_pald hL dX0_gives_67 (by omega) ?_
      refine k_pget 1 hL dX0_gives_68 (by decide) q272 (by omega) ?_
      refine x_top ha9 ?_
      refine x_aload_n dX0_gives_71 rfl ?_
      refine k_Fref 17 hO.1 rfl (by decide) rfl dX0_gives_72 q415 ?_
      refine k_people 0 rfl hL dX0_gives_75 q348 ?_
      refine x_iload dX0_gives_78 rfl ?_
      refine k_pald hL dX0_gives_80 (by omega) ?_
      refine k_pget 2 hL dX0_gives_81 (by decide) q275 (by omega) ?_
      refine x_top hb9 ?_
      refine k_V3iL hO dX0_gives_84 kG_X0_X2_serves kP_X2_serves rfl (by omega) (by decide) (Nat.le_of_ble_eq_true rfl) (d_serves hO (Nat.mod_lt _ hC0) hfa hfb) ?_
      refine x_iand dX0_gives_87 ?_
      refine x_top bI_and ?_
      refine x_istore_n dX0_gives_88 (by decide) rfl ?_
      refine x_iinc dX0_gives_89 rfl rfl (by decide) rfl ?_
      refine x_goto (tgt := 15) dX0_gives_92 (by decide) ?_
      rw [gvL, show svD w (q % nC) i = decide (w (100 + 80 * (q % nC) + a9) = nI 1 ∧ w (100 + 80 * (q % nC) + b9) = nI 1) by rw [svD, wN, wN, ha9, hb9, nI_clamp (by omega), nI_clamp (by omega)]]
      rw [show nI i + Int32.ofInt (-1) = nI i - nI 1 by rw [Int32.sub_eq_add_neg]; rfl]
      exact ih i (q / nC) _ _ (by omega) (by omega) (by omega)
set_option maxHeartbeats 1000000 in
theorem d_gives (hL : LT g M 32) (hO0 : PC g M S π 32 f nC w) (hp : plA π) (hn : n ≤ 6) (hw : w 2 = nI n) (hPI : PI w n f) (hf : f ≤ 80) (hC0 : 0 < nC) (hC : nC ≤ 4) {q : Nat} (hq : q < 100000) : fc_CX g l yX0_gives cX0_gives 5 (some .boolean) 2 [.ref (fc_B g + 0), .int (nI q)] (cR M S U 32 w) (fc_re (bI ((gvL w nC n q (S 233) true).2 = true)) (cR M (stA S 233 (gvL w nC n q (S 233) true).1) U 32 w)) := by
  refine fc_enter (by decide) (Nat.le_of_ble_eq_true rfl) rfl ?_
  have hO := hO0
  refine x_iload_n dX0_gives_0 rfl ?_
  refine x_istore_n dX0_gives_1 (by decide) rfl ?_
  refine x_ic1 dX0_gives_2 ?_
  refine x_istore_n dX0_gives_3 (by decide) rfl ?_
  refine x_aload_n dX0_gives_4 rfl ?_
  refine k_Fref 17 hO.1 rfl (by decide) rfl dX0_gives_5 q415 ?_
  refine k_tget 2 hL dX0_gives_8 (by decide) q352 ?_
  refine x_top hw ?_
  refine x_ic1 dX0_gives_11 ?_
  refine x_isub dX0_gives_12 ?_
  refine x_istore dX0_gives_13 (by decide) rfl ?_
  have e0 := m_gives (l := l) (U := U) (x1 := nI q) (n0 := fc_nx (cR M S U 32 w)) (s0 := fc_sl (cR M S U 32 w)) hL hO0 hp hn hPI hf hC0 hC (n + 1) n q (S 233) true (Nat.le_refl _) (by omega) hq
  rw [stA_self] at e0
  exact e0
end T99ZQ

set_option maxRecDepth 100000
section T99ZZU
variable {g : fc_G} {l : Launch} {M M0 : fc_M} {S S0 : tT} {U : tU} {E : tEn} {q : tTk}
def rcP (g : fc_G) (M0 : fc_M) (S0 : tT) (U : tU) (E : tEn) (π F nc ln : Nat) (Z : Nat → Int32) (R : Except tEr (tTk × (Nat → Int32))) : Outcome → fc_M → Prop := match R with
  | .error e => fun o M2 => ∃ x M' S', o = .threw (fc_B g + x) ∧ M2 = cl M' S' U ∧ (gw M0 S0 M' S' ∧ fc_nx M' ≤ fc_nx M0 + 412 ∧ fc_sl M' ≤ fc_sl M0 + 1568) ∧ fltO M' S' x e
  | .ok z => fun o M2 => o = .returned none ∧ ∃ M' S', M2 = cl M' S' U ∧ js M0 S0 M' S' z.1.1 ∧ ctk g M' S' E z.1 ∧ PR g M' S' π F (nc + 1) ln z.2 Z
theorem rcP_e {π F nc ln x : Nat} {Z : Nat → Int32} {R : Except tEr (tTk × (Nat → Int32))} {e : tEr} {M' : fc_M} {S' : tT} (h : R = .error e) (h1 : gw M0 S0 M' S' ∧ fc_nx M' ≤ fc_nx M0 + 412 ∧ fc_sl M' ≤ fc_sl M0 + 1568) (h2 : fltO M' S' x e) : rcP g M0 S0 U E π F nc ln Z R (.threw (fc_B g + x)) (cl M' S' U) := by
  rw [h]; exact ⟨x, M', S', rfl, rfl, h1, h2⟩
theorem rcP_k {π F nc ln : Nat} {Z : Nat → Int32} {R : Except tEr (tTk × (Nat → Int32))} {z : tTk × (Nat → Int32)} {M' : fc_M} {S' : tT} (h : R = .ok z) (h1 : js M0 S0 M' S' z.1.1) (h2 : ctk g M' S' E z.1) (h3 : PR g M' S' π F (nc + 1) ln z.2 Z) : rcP g M0 S0 U E π F nc ln Z R (.returned none) (cl M' S' U) := by
  rw [h]; exact ⟨rfl, M', S', rfl, h1, h2, h3⟩
set_option maxHeartbeats 2000000 in
theorem d_readsCar (hF : LF g M) (hW : WD g M) (hk : ctk g M S E q) (hj : js M0 S0 M S q.1) {π F nc ln : Nat} {K Z : Nat → Int32} (hπ : fc_nx M0 ≤ π) (h9 : 9 ≤ fc_nx M0) (hR : PR g M S π F nc ln K Z) (hn : nc < 4) : fc_CX g l yX0_readsCar cX0_readsCar 2 (none) 9 [.ref (fc_B g + 0), .ref (fc_B g + π)] (cl M S U) (rcP g M0 S0 U E π F nc ln Z (pCL E (nI F) nc 6 0 q K)) := by
  refine fc_enter (by decide) (Nat.le_of_ble_eq_true rfl) rfl ?_
  refine x_aload_n dX0_readsCar_0 rfl ?_
  refine q_getr 2 3 dX0_readsCar_1 (C := RX2) (T := TX2) (N := 9) rfl (by decide) q217 (show π < fc_nx M by have := hR.1.1; omega) hR.1.2.1 rfl (hR.2.1.1 0 (by decide)) ?_
  refine x_aload_n dX0_readsCar_4 rfl ?_
  refine q_geti 2 1 dX0_readsCar_5 (C := RX2) (T := TX2) (N := 9) rfl (by decide) q213 (show π < fc_nx M by have := hR.1.1; omega) hR.1.2.1 rfl hR.2.2.1.1.2.1 ?_
  refine x_aload_n dX0_readsCar_8 rfl ?_
  refine x_ic1 dX0_readsCar_9 ?_
  refine x_bipush (v := nI 12) dX0_readsCar_10 (by decide) ?_
  refine k_num hF hW hk q825 dX0_readsCar_12 kG_X0_X0_number (by omega) (Nat.le_of_ble_eq_true rfl) (fun h9_0 h7_0 M1 S1 hx1 hk1 h10_1 => ?_) (fun e h8 x M2 S2 h1 h2 => rcP_e (by rw [pCL_e (fl := nI F) (nc := nc) (m := 5) (i := 0) (by decide) h8]) (hj.tre h1) h2)
  have hF1 := LF_gw hF hx1.1
  have hW1 := WD_gw hF hW hx1.1
  have hR1 := PR_gw hR hx1.1
  have hj1 := hj.tr hx1
  refine x_iast dX0_readsCar_15 (show π + 1 + 0 < fc_nx M1 by have := hR1.1.1; omega) (hR1.1.2.2.1 0 (by decide)) (by decide) hn ?_
  rw [cl_puti (by rw [hR1.1.2.2.1 0 (by decide)]; rfl)]
  have hk1 := ctk_tu (x := π + 1 + 0) (k := nc) (v := q.2.2.2) hk1 (by omega)
  have hj1 := hj1.tux (x := π + 1 + 0) (k := nc) (v := q.2.2.2) (by omega)
  have c0_1 : tu S1 (π + 1 + 0) nc (q.2.2.2) (π + 1 + 0) nc = q.2.2.2 := tu_at
  have hR1 := PR_n (i := 0) (v := q.2.2.2) hR1 (by decide)
  generalize tu S1 (π + 1 + 0) nc (q.2.2.2) = S1 at hk1 hj1 c0_1 hR1 ⊢
  refine x_aload_n dX0_readsCar_16 rfl ?_
  refine q_getr 2 4 dX0_readsCar_17 (C := RX2) (T := TX2) (N := 9) rfl (by decide) q220 (show π < fc_nx M1 by have := hR1.1.1; omega) hR1.1.2.1 rfl (hR1.2.1.1 1 (by decide)) ?_
  refine x_aload_n dX0_readsCar_20 rfl ?_
  refine q_geti 2 1 dX0_readsCar_21 (C := RX2) (T := TX2) (N := 9) rfl (by decide) q213 (show π < fc_nx M1 by have := hR1.1.1; omega) hR1.1.2.1 rfl hR1.2.2.1.1.2.1 ?_
  refine x_aload_n dX0_readsCar_24 rfl ?_
  refine x_ic1 dX0_readsCar_25 ?_
  refine x_bipush (v := nI 9) dX0_readsCar_26 (by decide) ?_
  refine k_num hF1 hW1 hk1 q825 dX0_readsCar_28 kG_X0_X0_number (by omega) (Nat.le_of_ble_eq_true rfl) (fun h9_1 h7_1 M2 S2 hx2 hk2 h10_2 => ?_) (fun e h8 x M2 S2 h1 h2 => rcP_e (by rw [pCL_k (fl := nI F) (nc := nc) (m := 5) (i := 0) (by decide) h9_0, pCL_e (fl := nI F) (nc := nc) (m := 4) (i := 1) (by decide) h8]) (hj1.tre h1) h2)
  have hF2 := LF_gw hF1 hx2.1
  have hW2 := WD_gw hF1 hW1 hx2.1
  have hR2 := PR_gw hR1 hx2.1
  have hj2 := hj1.tr hx2
  have c0_2 : S2 (π + 1 + 0) nc = q.2.2.2 := (hx2.1.2.2.2 _ _ (by have := hR1.1.1; omega) (by have := hR1.2.2.1.2.2; omega)).trans c0_1
  refine x_iast dX0_readsCar_31 (show π + 1 + 1 < fc_nx M2 by have := hR2.1.1; omega) (hR2.1.2.2.1 1 (by decide)) (by decide) hn ?_
  rw [cl_puti (by rw [hR2.1.2.2.1 1 (by decide)]; rfl)]
  have hk2 := ctk_tu (x := π + 1 + 1) (k := nc) (v := (nxt E q).2.2.2) hk2 (by omega)
  have hj2 := hj2.tux (x := π + 1 + 1) (k := nc) (v := (nxt E q).2.2.2) (by omega)
  have c0_2 : tu S2 (π + 1 + 1) nc ((nxt E q).2.2.2) (π + 1 + 0) nc = q.2.2.2 := (if_neg (fun z => absurd z.1 (by omega))).trans c0_2
  have c1_2 : tu S2 (π + 1 + 1) nc ((nxt E q).2.2.2) (π + 1 + 1) nc = (nxt E q).2.2.2 := tu_at
  have hR2 := PR_n (i := 1) (v := (nxt E q).2.2.2) hR2 (by decide)
  generalize tu S2 (π + 1 + 1) nc ((nxt E q).2.2.2) = S2 at hk2 hj2 c0_2 c1_2 hR2 ⊢
  refine x_aload_n dX0_readsCar_32 rfl ?_
  refine q_getr 2 5 dX0_readsCar_33 (C := RX2) (T := TX2) (N := 9) rfl (by decide) q223 (show π < fc_nx M2 by have := hR2.1.1; omega) hR2.1.2.1 rfl (hR2.2.1.1 2 (by decide)) ?_
  refine x_aload_n dX0_readsCar_36 rfl ?_
  refine q_geti 2 1 dX0_readsCar_37 (C := RX2) (T := TX2) (N := 9) rfl (by decide) q213 (show π < fc_nx M2 by have := hR2.1.1; omega) hR2.1.2.1 rfl hR2.2.2.1.1.2.1 ?_
  refine x_aload_n dX0_readsCar_40 rfl ?_
  refine x_ic1 dX0_readsCar_41 ?_
  refine x_bipush (v := nI 9) dX0_readsCar_42 (by decide) ?_
  refine k_num hF2 hW2 hk2 q825 dX0_readsCar_44 kG_X0_X0_number (by omega) (Nat.le_of_ble_eq_true rfl) (fun h9_2 h7_2 M3 S3 hx3 hk3 h10_3 => ?_) (fun e h8 x M2 S2 h1 h2 => rcP_e (by rw [pCL_k (fl := nI F) (nc := nc) (m := 5) (i := 0) (by decide) h9_0, pCL_k (fl := nI F) (nc := nc) (m := 4) (i := 1) (by decide) h9_1, pCL_e (fl := nI F) (nc := nc) (m := 3) (i := 2) (by decide) h8]) (hj2.tre h1) h2)
  have hF3 := LF_gw hF2 hx3.1
  have hW3 := WD_gw hF2 hW2 hx3.1
  have hR3 := PR_gw hR2 hx3.1
  have hj3 := hj2.tr hx3
  have c0_3 : S3 (π + 1 + 0) nc = q.2.2.2 := (hx3.1.2.2.2 _ _ (by have := hR2.1.1; omega) (by have := hR2.2.2.1.2.2; omega)).trans c0_2
  have c1_3 : S3 (π + 1 + 1) nc = (nxt E q).2.2.2 := (hx3.1.2.2.2 _ _ (by have := hR2.1.1; omega) (by have := hR2.2.2.1.2.2; omega)).trans c1_2
  refine x_iast dX0_readsCar_47 (show π + 1 + 2 < fc_nx M3 by have := hR3.1.1; omega) (hR3.1.2.2.1 2 (by decide)) (by decide) hn ?_
  rw [cl_puti (by rw [hR3.1.2.2.1 2 (by decide)]; rfl)]
  have hk3 := ctk_tu (x := π + 1 + 2) (k := nc) (v := (nxt E (nxt E q)).2.2.2) hk3 (by omega)
  have hj3 := hj3.tux (x := π + 1 + 2) (k := nc) (v := (nxt E (nxt E q)).2.2.2) (by omega)
  have c0_3 : tu S3 (π + 1 + 2) nc ((nxt E (nxt E q)).2.2.2) (π + 1 + 0) nc = q.2.2.2 := (if_neg (fun z => absurd z.1 (by omega))).trans c0_3
  have c1_3 : tu S3 (π + 1 + 2) nc ((nxt E (nxt E q)).2.2.2) (π + 1 + 1) nc = (nxt E q).2.2.2 := (if_neg (fun z => absurd z.1 (by omega))).trans c1_3
  have c2_3 : tu S3 (π + 1 + 2) nc ((nxt E (nxt E q)).2.2.2) (π + 1 + 2) nc = (nxt E (nxt E q)).2.2.2 := tu_at
  have hR3 := PR_n (i := 2) (v := (nxt E (nxt E q)).2.2.2) hR3 (by decide)
  generalize tu S3 (π + 1 + 2) nc ((nxt E (nxt E q)).2.2.2) = S3 at hk3 hj3 c0_3 c1_3 c2_3 hR3 ⊢
  refine x_aload_n dX0_readsCar_48 rfl ?_
  refine q_getr 2 6 dX0_readsCar_49 (C := RX2) (T := TX2) (N := 9) rfl (by decide) q226 (show π < fc_nx M3 by have := hR3.1.1; omega) hR3.1.2.1 rfl (hR3.2.1.1 3 (by decide)) ?_
  refine x_aload_n dX0_readsCar_52 rfl ?_
  refine q_geti 2 1 dX0_readsCar_53 (C := RX2) (T := TX2) (N := 9) rfl (by decide) q213 (show π < fc_nx M3 by have := hR3.1.1; omega) hR3.1.2.1 rfl hR3.2.2.1.1.2.1 ?_
  refine x_aload_n dX0_readsCar_56 rfl ?_
  refine x_ic0 dX0_readsCar_57 ?_
  refine x_bipush (v := nI 9) dX0_readsCar_58 (by decide) ?_
  refine k_num hF3 hW3 hk3 q825 dX0_readsCar_60 kG_X0_X0_number (by omega) (Nat.le_of_ble_eq_true rfl) (fun h9_3 h7_3 M4 S4 hx4 hk4 h10_4 => ?_) (fun e h8 x M2 S2 h1 h2 => rcP_e (by rw [pCL_k (fl := nI F) (nc := nc) (m := 5) (i := 0) (by decide) h9_0, pCL_k (fl := nI F) (nc := nc) (m := 4) (i := 1) (by decide) h9_1, pCL_k (fl := nI F) (nc := nc) (m := 3) (i := 2) (by decide) h9_2, pCL_e (fl := nI F) (nc := nc) (m := 2) (i := 3) (by decide) h8]) (hj3.tre h1) h2)
  have hF4 := LF_gw hF3 hx4.1
  have hW4 := WD_gw hF3 hW3 hx4.1
  have hR4 := PR_gw hR3 hx4.1
  have hj4 := hj3.tr hx4
  have c0_4 : S4 (π + 1 + 0) nc = q.2.2.2 := (hx4.1.2.2.2 _ _ (by have := hR3.1.1; omega) (by have := hR3.2.2.1.2.2; omega)).trans c0_3
  have c1_4 : S4 (π + 1 + 1) nc = (nxt E q).2.2.2 := (hx4.1.2.2.2 _ _ (by have := hR3.1.1; omega) (by have := hR3.2.2.1.2.2; omega)).trans c1_3
  have c2_4 : S4 (π + 1 + 2) nc = (nxt E (nxt E q)).2.2.2 := (hx4.1.2.2.2 _ _ (by have := hR3.1.1; omega) (by have := hR3.2.2.1.2.2; omega)).trans c2_3
  refine x_iast dX0_readsCar_63 (show π + 1 + 3 < fc_nx M4 by have := hR4.1.1; omega) (hR4.1.2.2.1 3 (by decide)) (by decide) hn ?_
  rw [cl_puti (by rw [hR4.1.2.2.1 3 (by decide)]; rfl)]
  have hk4 := ctk_tu (x := π + 1 + 3) (k := nc) (v := (nxt E (nxt E (nxt E q))).2.2.2) hk4 (by omega)
  have hj4 := hj4.tux (x := π + 1 + 3) (k := nc) (v := (nxt E (nxt E (nxt E q))).2.2.2) (by omega)
  have c0_4 : tu S4 (π + 1 + 3) nc ((nxt E (nxt E (nxt E q))).2.2.2) (π + 1 + 0) nc = q.2.2.2 := (if_neg (fun z => absurd z.1 (by omega))).trans c0_4
  have c1_4 : tu S4 (π + 1 + 3) nc ((nxt E (nxt E (nxt E q))).2.2.2) (π + 1 + 1) nc = (nxt E q).2.2.2 := (if_neg (fun z => absurd z.1 (by omega))).trans c1_4
  have c2_4 : tu S4 (π + 1 + 3) nc ((nxt E (nxt E (nxt E q))).2.2.2) (π + 1 + 2) nc = (nxt E (nxt E q)).2.2.2 := (if_neg (fun z => absurd z.1 (by omega))).trans c2_4
  have c3_4 : tu S4 (π + 1 + 3) nc ((nxt E (nxt E (nxt E q))).2.2.2) (π + 1 + 3) nc = (nxt E (nxt E (nxt E q))).2.2.2 := tu_at
  have hR4 := PR_n (i := 3) (v := (nxt E (nxt E (nxt E q))).2.2.2) hR4 (by decide)
  generalize tu S4 (π + 1 + 3) nc ((nxt E (nxt E (nxt E q))).2.2.2) = S4 at hk4 hj4 c0_4 c1_4 c2_4 c3_4 hR4 ⊢
  refine x_aload_n dX0_readsCar_64 rfl ?_
  refine q_getr 2 7 dX0_readsCar_65 (C := RX2) (T := TX2) (N := 9) rfl (by decide) q229 (show π < fc_nx M4 by have := hR4.1.1; omega) hR4.1.2.1 rfl (hR4.2.1.1 4 (by decide)) ?_
  refine x_aload_n dX0_readsCar_68 rfl ?_
  refine q_geti 2 1 dX0_readsCar_69 (C := RX2) (T := TX2) (N := 9) rfl (by decide) q213 (show π < fc_nx M4 by have := hR4.1.1; omega) hR4.1.2.1 rfl hR4.2.2.1.1.2.1 ?_
  refine x_aload_n dX0_readsCar_72 rfl ?_
  refine x_ic0 dX0_readsCar_73 ?_
  refine x_aload_n dX0_readsCar_74 rfl ?_
  refine q_geti 2 0 dX0_readsCar_75 (C := RX2) (T := TX2) (N := 9) rfl (by decide) q211 (show π < fc_nx M4 by have := hR4.1.1; omega) hR4.1.2.1 rfl hR4.2.2.1.1.1 ?_
  refine x_ic1 dX0_readsCar_78 ?_
  refine x_isub dX0_readsCar_79 ?_
  refine k_num hF4 hW4 hk4 q825 dX0_readsCar_80 kG_X0_X0_number (by omega) (Nat.le_of_ble_eq_true rfl) (fun h9_4 h7_4 M5 S5 hx5 hk5 h10_5 => ?_) (fun e h8 x M2 S2 h1 h2 => rcP_e (by rw [pCL_k (fl := nI F) (nc := nc) (m := 5) (i := 0) (by decide) h9_0, pCL_k (fl := nI F) (nc := nc) (m := 4) (i := 1) (by decide) h9_1, pCL_k (fl := nI F) (nc := nc) (m := 3) (i := 2) (by decide) h9_2, pCL_k (fl := nI F) (nc := nc) (m := 2) (i := 3) (by decide) h9_3, pCL_e (fl := nI F) (nc := nc) (m := 1) (i := 4) (by decide) h8]) (hj4.tre h1) h2)
  have hF5 := LF_gw hF4 hx5.1
  have hW5 := WD_gw hF4 hW4 hx5.1
  have hR5 := PR_gw hR4 hx5.1
  have hj5 := hj4.tr hx5
  have c0_5 : S5 (π + 1 + 0) nc = q.2.2.2 := (hx5.1.2.2.2 _ _ (by have := hR4.1.1; omega) (by have := hR4.2.2.1.2.2; omega)).trans c0_4
  have c1_5 : S5 (π + 1 + 1) nc = (nxt E q).2.2.2 := (hx5.1.2.2.2 _ _ (by have := hR4.1.1; omega) (by have := hR4.2.2.1.2.2; omega)).trans c1_4
  have c2_5 : S5 (π + 1 + 2) nc = (nxt E (nxt E q)).2.2.2 := (hx5.1.2.2.2 _ _ (by have := hR4.1.1; omega) (by have := hR4.2.2.1.2.2; omega)).trans c2_4
  have c3_5 : S5 (π + 1 + 3) nc = (nxt E (nxt E (nxt E q))).2.2.2 := (hx5.1.2.2.2 _ _ (by have := hR4.1.1; omega) (by have := hR4.2.2.1.2.2; omega)).trans c3_4
  refine x_iast dX0_readsCar_83 (show π + 1 + 4 < fc_nx M5 by have := hR5.1.1; omega) (hR5.1.2.2.1 4 (by decide)) (by decide) hn ?_
  rw [cl_puti (by rw [hR5.1.2.2.1 4 (by decide)]; rfl)]
  have hk5 := ctk_tu (x := π + 1 + 4) (k := nc) (v := (nxt E (nxt E (nxt E (nxt E q)))).2.2.2) hk5 (by omega)
  have hj5 := hj5.tux (x := π + 1 + 4) (k := nc) (v := (nxt E (nxt E (nxt E (nxt E q)))).2.2.2) (by omega)
  have c0_5 : tu S5 (π + 1 + 4) nc ((nxt E (nxt E (nxt E (nxt E q)))).2.2.2) (π + 1 + 0) nc = q.2.2.2 := (if_neg (fun z => absurd z.1 (by omega))).trans c0_5
  have c1_5 : tu S5 (π + 1 + 4) nc ((nxt E (nxt E (nxt E (nxt E q)))).2.2.2) (π + 1 + 1) nc = (nxt E q).2.2.2 := (if_neg (fun z => absurd z.1 (by omega))).trans c1_5
  have c2_5 : tu S5 (π + 1 + 4) nc ((nxt E (nxt E (nxt E (nxt E q)))).2.2.2) (π + 1 + 2) nc = (nxt E (nxt E q)).2.2.2 := (if_neg (fun z => absurd z.1 (by omega))).trans c2_5
  have c3_5 : tu S5 (π + 1 + 4) nc ((nxt E (nxt E (nxt E (nxt E q)))).2.2.2) (π + 1 + 3) nc = (nxt E (nxt E (nxt E q))).2.2.2 := (if_neg (fun z => absurd z.1 (by omega))).trans c3_5
  have c4_5 : tu S5 (π + 1 + 4) nc ((nxt E (nxt E (nxt E (nxt E q)))).2.2.2) (π + 1 + 4) nc = (nxt E (nxt E (nxt E (nxt E q)))).2.2.2 := tu_at
  have hR5 := PR_n (i := 4) (v := (nxt E (nxt E (nxt E (nxt E q)))).2.2.2) hR5 (by decide)
  generalize tu S5 (π + 1 + 4) nc ((nxt E (nxt E (nxt E (nxt E q)))).2.2.2) = S5 at hk5 hj5 c0_5 c1_5 c2_5 c3_5 c4_5 hR5 ⊢
  refine x_aload_n dX0_readsCar_84 rfl ?_
  refine x_dup dX0_readsCar_85 rfl ?_
  refine q_geti 2 1 dX0_readsCar_86 (C := RX2) (T := TX2) (N := 9) rfl (by decide) q213 (show π < fc_nx M5 by have := hR5.1.1; omega) hR5.1.2.1 rfl hR5.2.2.1.1.2.1 ?_
  refine x_ic1 dX0_readsCar_89 ?_
  refine x_iaddN dX0_readsCar_90 ?_
  refine q_puti 2 1 dX0_readsCar_91 (C := RX2) (T := TX2) (N := 9) rfl (by decide) q213 rfl rfl rfl (show π < fc_nx M5 by have := hR5.1.1; omega) hR5.1.2.1 rfl ?_
  refine x_vret dX0_readsCar_94 rfl (rcP_k (z := ((nxt E (nxt E (nxt E (nxt E (nxt E q))))), (up (up (up (up (up K (10 * nc + 0) q.2.2.2) (10 * nc + 1) (nxt E q).2.2.2) (10 * nc + 2) (nxt E (nxt E q)).2.2.2) (10 * nc + 3) (nxt E (nxt E (nxt E q))).2.2.2) (10 * nc + 4) (nxt E (nxt E (nxt E (nxt E q)))).2.2.2))) (by rw [pCL_k (fl := nI F) (nc := nc) (m := 5) (i := 0) (by decide) h9_0, pCL_k (fl := nI F) (nc := nc) (m := 4) (i := 1) (by decide) h9_1, pCL_k (fl := nI F) (nc := nc) (m := 3) (i := 2) (by decide) h9_2, pCL_k (fl := nI F) (nc := nc) (m := 2) (i := 3) (by decide) h9_3, pCL_k (fl := nI F) (nc := nc) (m := 1) (i := 4) (by decide) h9_4, pCL, if_neg (by decide)]) (hj5.tux (by omega)) (ctk_tu hk5 (by omega)) (PR_c hR5 hn (fun j hj => ?_)))
  show S5 (π + 1 + j) nc = (up (up (up (up (up K (10 * nc + 0) q.2.2.2) (10 * nc + 1) (nxt E q).2.2.2) (10 * nc + 2) (nxt E (nxt E q)).2.2.2) (10 * nc + 3) (nxt E (nxt E (nxt E q))).2.2.2) (10 * nc + 4) (nxt E (nxt E (nxt E (nxt E q)))).2.2.2) (10 * nc + j)
  rcases (show j = 0 ∨ j = 1 ∨ j = 2 ∨ j = 3 ∨ j = 4 by omega) with e | e | e | e | e <;> subst e
  · rw [up_n (by omega), up_n (by omega), up_n (by omega), up_n (by omega), up_s]; exact c0_5
  · rw [up_n (by omega), up_n (by omega), up_n (by omega), up_s]; exact c1_5
  · rw [up_n (by omega), up_n (by omega), up_s]; exact c2_5
  · rw [up_n (by omega), up_s]; exact c3_5
  · rw [up_s]; exact c4_5
end T99ZZU

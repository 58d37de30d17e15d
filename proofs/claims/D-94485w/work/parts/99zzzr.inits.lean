set_option maxRecDepth 100000
/-! ===== the constructors of FourCars and FourCarsModel ===== -/
section T99ZZZR
variable {g : fc_G} {l : Launch} {M M1 : fc_M} {S S1 : tT} {U U1 : tU} {n s : Nat} {shs : List (Nat × fc_Sh)} {cts : List (Nat × Nat × Value)} {E : List (Nat × Nat)} {tws : List Nat}
variable {y : MethodName} {cc : ByteArray} {nL : Nat} {ret : Option FieldType} {d n0 s0 : Nat} {pc : Nat} {L : List (Option Value)} {st : List Value} {Q : Outcome → fc_M → Prop}
theorem kP_X3_init : kPar yX3_init 1 := by decide +kernel
theorem IQ_grd {ty : FieldType} {k : Nat} (h : IQ g M S U n s shs cts E tws) (hl : cts.all (fun q => decide (q.1 < n)) = true) (ht : tws.all (fun β => decide (β + 67 ≤ n)) = true) : IQ g (fc_grd g M ty 4 k 4) (gdZ S n 4) U (n + 5) (s + 4 + k + k + k + k) ((n + 4, .inr (ty, k)) :: (n + 3, .inr (ty, k)) :: (n + 2, .inr (ty, k)) :: (n + 1, .inr (ty, k)) :: (n, .inr (.array ty, 4)) :: shs) ((n, 3, .ref (fc_B g + (n + 4))) :: (n, 2, .ref (fc_B g + (n + 3))) :: (n, 1, .ref (fc_B g + (n + 2))) :: (n, 0, .ref (fc_B g + (n + 1))) :: cts) E tws := by
  have e := h.1.1
  subst e
  have hq : ∀ j, cts.all (fun q => !(q.1 == fc_nx M && q.2.1 == j)) = true := fun j => List.all_eq_true.mpr (fun q hq => by
    have := of_decide_eq_true (List.all_eq_true.mp hl q hq)
    have : ¬ q.1 = fc_nx M := by omega
    simp [this])
  have ht2 : tws.all (fun β => decide (fc_nx M < β ∨ β + 67 ≤ fc_nx M)) = true := List.all_eq_true.mpr (fun q hq => decide_eq_true (Or.inr (of_decide_eq_true (List.all_eq_true.mp ht q hq))))
  have a0 := IQ_al (sh := .inr (.array ty, 4)) (N := 4) (f := fun _ => .null) (U1 := U) h (fun _ _ _ => rfl)
  have a1 := IQ_put (a := fc_nx M) (k := 0) (v := .ref (fc_B g + (fc_nx M + 1 + 0))) (IQ_al (sh := .inr (ty, k)) (N := k) (f := fun _ => defaultValue ty) (U1 := U) a0 (fun _ _ _ => rfl)) (by omega) (hq 0) ht2
  have a2 := IQ_put (a := fc_nx M) (k := 1) (v := .ref (fc_B g + (fc_nx M + 1 + 1))) (IQ_al (sh := .inr (ty, k)) (N := k) (f := fun _ => defaultValue ty) (U1 := U) a1 (fun _ _ _ => rfl)) (by omega) (by rw [List.all_cons, hq 1]; simp) ht2
  have a3 := IQ_put (a := fc_nx M) (k := 2) (v := .ref (fc_B g + (fc_nx M + 1 + 2))) (IQ_al (sh := .inr (ty, k)) (N := k) (f := fun _ => defaultValue ty) (U1 := U) a2 (fun _ _ _ => rfl)) (by omega) (by rw [List.all_cons, List.all_cons, hq 2]; simp) ht2
  have a4 := IQ_put (a := fc_nx M) (k := 3) (v := .ref (fc_B g + (fc_nx M + 1 + 3))) (IQ_al (sh := .inr (ty, k)) (N := k) (f := fun _ => defaultValue ty) (U1 := U) a3 (fun _ _ _ => rfl)) (by omega) (by rw [List.all_cons, List.all_cons, List.all_cons, hq 3]; simp) ht2
  exact a4
theorem i_grid {i k : Nat} {ty : FieldType} (h : IQ g M S U n s shs cts E tws) (hd : decode cc pc = .ok (.multianewarray i 2, 4)) (h1 : FieldType.array ty ∈ fcTys) (h2 : ty ∈ fcTys) (hcl : Cond.classLink y.cls i ("[" ++ (FieldType.array ty).toString) ∈ lw_all) (hts2 : (FieldType.array ty).toString = "[" ++ ty.toString) (hk : k < 1000) (hcb : componentBytes ty ≤ 8) (hft : fits ty (defaultValue ty) = true) (hdf : (defaultValue ty).isDefault = true) (hkd : ∀ j, kdO (.inr (ty, k)) j = 1) (hdv : defaultValue ty = .int 0) (hl : cts.all (fun q => decide (q.1 < n)) = true) (ht : tws.all (fun β => decide (β + 67 ≤ n)) = true)
    (kk : ∀ M1 S1, IQ g M1 S1 U (n + 5) (s + 4 + k + k + k + k) ((n + 4, .inr (ty, k)) :: (n + 3, .inr (ty, k)) :: (n + 2, .inr (ty, k)) :: (n + 1, .inr (ty, k)) :: (n, .inr (.array ty, 4)) :: shs) ((n, 3, .ref (fc_B g + (n + 4))) :: (n, 2, .ref (fc_B g + (n + 3))) :: (n, 1, .ref (fc_B g + (n + 2))) :: (n, 0, .ref (fc_B g + (n + 1))) :: cts) E tws → fc_X g l y cc nL ret d n0 s0 (cl M1 S1 U) (pc + 4) L (.ref (fc_B g + n) :: st) Q) : fc_X g l y cc nL ret d n0 s0 (cl M S U) pc L (.int (nI k) :: .int (nI 4) :: st) Q := by
  refine x_gridC (n := 4) (k := k) hd h1 h2 hcl hts2 (by decide) hk hcb hft hdf hkd hdv ?_
  rw [h.1.1]
  exact kk _ _ (IQ_grd h hl ht)
theorem i_plan {i a : Nat} {host : String} (h : IQ g M S U n s shs cts E tws) (hd : decode cc pc = .ok (.invokespecial i, 3)) (hl : Cond.methodLinkNest y.cls i yX2_init host ∈ lw_tbl) (hdd : 3 ≤ d) (hrest : (st.map fun v => v.category).sum ≤ 8) (hsh : (a, Sum.inl 2) ∈ shs) (hc0 : cts.all (fun q => decide (q.1 < a)) = true) (ht : tws = [])
    (kk : ∀ M1 S1, IQ g M1 S1 U (n + 10) (s + 344) ((n + 9, .inr (.boolean, 80)) :: (n + 8, .inr (.boolean, 80)) :: (n + 7, .inr (.boolean, 80)) :: (n + 6, .inr (.boolean, 80)) :: (n + 5, .inr (.array .boolean, 4)) :: (n + 4, .inr (.int, 4)) :: (n + 3, .inr (.int, 4)) :: (n + 2, .inr (.int, 4)) :: (n + 1, .inr (.int, 4)) :: (n, .inr (.int, 4)) :: shs) ((a, 8, .ref (fc_B g + (n + 5))) :: (n + 5, 3, .ref (fc_B g + (n + 9))) :: (n + 5, 2, .ref (fc_B g + (n + 8))) :: (n + 5, 1, .ref (fc_B g + (n + 7))) :: (n + 5, 0, .ref (fc_B g + (n + 6))) :: (a, 7, .ref (fc_B g + (n + 4))) :: (a, 6, .ref (fc_B g + (n + 3))) :: (a, 5, .ref (fc_B g + (n + 2))) :: (a, 4, .ref (fc_B g + (n + 1))) :: (a, 3, .ref (fc_B g + n)) :: cts) E tws → fc_X g l y cc nL ret d n0 s0 (cl M1 S1 U) (pc + 3) L st Q) : fc_X g l y cc nL ret d n0 s0 (cl M S U) pc L (.ref (fc_B g + a) :: st) Q := by
  subst ht
  have hs := h.2.1 _ hsh
  refine x_I0N (M2 := cl (piM g M a) (piS S (fc_nx M)) U) hd q206 q120 hl q205 rfl kP_X2_init (by omega) (by decide) hrest (d_iPlan (by rw [h.1.1]; exact hs.1) hs.2) ?_
  have e0 := h.1.1
  have hsa := hs.1
  subst e0
  have hq : ∀ k, cts.all (fun q => !(q.1 == a && q.2.1 == k)) = true := fun k => List.all_eq_true.mpr (fun q hq => by
    have := of_decide_eq_true (List.all_eq_true.mp hc0 q hq)
    have : ¬ q.1 = a := by omega
    simp [this])
  have hlt : ∀ m, a < m → cts.all (fun q => decide (q.1 < m)) = true := fun m hm => List.all_eq_true.mpr (fun q hq => by
    have := of_decide_eq_true (List.all_eq_true.mp hc0 q hq)
    exact decide_eq_true (by omega))
  have e1 := IQ_tiA (k := 3) (sh := .inr (.int, 4)) (N := 4) (f := fun _ => .int 0) h hsa (hq 3) rfl
  have e2 := IQ_tiA (τ := a) (k := 4) (sh := .inr (.int, 4)) (N := 4) (f := fun _ => .int 0) e1 (by omega) (by rw [List.all_cons, hq 4]; simp) rfl
  have e3 := IQ_tiA (τ := a) (k := 5) (sh := .inr (.int, 4)) (N := 4) (f := fun _ => .int 0) e2 (by omega) (by rw [List.all_cons, List.all_cons, hq 5]; simp) rfl
  have e4 := IQ_tiA (τ := a) (k := 6) (sh := .inr (.int, 4)) (N := 4) (f := fun _ => .int 0) e3 (by omega) (by rw [List.all_cons, List.all_cons, List.all_cons, hq 6]; simp) rfl
  have e5 := IQ_tiA (τ := a) (k := 7) (sh := .inr (.int, 4)) (N := 4) (f := fun _ => .int 0) e4 (by omega) (by rw [List.all_cons, List.all_cons, List.all_cons, List.all_cons, hq 7]; simp) rfl
  have e6 := IQ_grd (ty := .boolean) (k := 80) e5 (by
    rw [List.all_cons, List.all_cons, List.all_cons, List.all_cons, List.all_cons, hlt _ (by omega)]
    simp only [Bool.and_true, Bool.and_self, decide_eq_true_eq, Bool.and_eq_true]
    omega) rfl
  have e7 := IQ_put (a := a) (k := 8) (v := .ref (fc_B g + (fc_nx M + 5))) e6 (by omega) (by
    have hne : ¬ fc_nx M + 1 + 1 + 1 + 1 + 1 = a := by omega
    rw [List.all_cons, List.all_cons, List.all_cons, List.all_cons, List.all_cons, List.all_cons, List.all_cons, List.all_cons, List.all_cons, hq 8]
    simp [hne]) rfl
  exact kk _ _ e7
theorem i_tower {i β : Nat} (h : IQ g M S U (β + 1) s shs cts E tws) (hd : decode cc pc = .ok (.invokespecial i, 3)) (hl : Cond.methodLink y.cls i yX3_init ∈ lw_all) (hdd : 3 ≤ d) (hrest : (st.map fun v => v.category).sum ≤ 8) (hsh : (β, Sum.inl 3) ∈ shs) (hc : cts.all (fun q => !(q.1 == β) || (q.2.1 != 0 && q.2.1 != 1 && q.2.1 != 11)) = true) (hs : shs.all (fun q => decide (q.1 < β ∨ q = (β, .inl 3))) = true) (ht : tws.all (fun b => decide (b + 67 ≤ β)) = true)
    (kk : ∀ M1 S1 U1, IQ g M1 S1 U1 (β + 67) (s + 516) shs cts ((β, 6) :: (β + 63, 4) :: (β + 64, 4) :: (β + 65, 4) :: (β + 66, 4) :: E) (β :: tws) → fc_X g l y cc nL ret d n0 s0 (cl M1 S1 U1) (pc + 3) L st Q) : fc_X g l y cc nL ret d n0 s0 (cl M S U) pc L (.ref (fc_B g + 0) :: .ref (fc_B g + β) :: st) Q := by
  obtain ⟨o, M2, ⟨rfl, M', S', U', rfl, hP⟩, hC⟩ := d_iTower (g := g) (l := l) (M := M) (S := S) (U := U) h.1.1 (h.2.1 _ hsh).2
  refine x_I1 (M2 := cl M' S' U') hd q256 q121 hl q255 rfl kP_X3_init (by omega) (by decide) hrest ⟨_, _, fc_rn.of, hC⟩ ?_
  exact kk _ _ _ (IQ_tw h hc hs ht hP)
def fcS : List (Nat × fc_Sh) := [(244, .inr (.int, 80)), (243, .inr (.object "FourCars$Text", 3)), (242, .inr (.int, 3)), (241, .inr (.int, 4)), (240, .inr (.int, 4)), (239, .inr (.int, 80)), (238, .inr (.int, 80)), (237, .inr (.int, 80)), (236, .inr (.int, 80)), (235, .inr (.array .int, 4)), (234, .inr (.int, 6)), (233, .inr (.int, 6)), (166, .inl 3), (99, .inl 3), (32, .inl 3), (31, .inr (.int, 10)), (30, .inr (.int, 80)), (29, .inr (.boolean, 80)), (28, .inr (.boolean, 80)), (27, .inr (.boolean, 80)), (26, .inr (.boolean, 80)), (25, .inr (.array .boolean, 4)), (24, .inr (.int, 4)), (23, .inr (.int, 4)), (22, .inr (.int, 4)), (21, .inr (.int, 4)), (20, .inr (.int, 4)), (19, .inl 2), (18, .inr (.object "FourCars$Term", 16)), (17, .inr (.object "FourCars$Term", 16)), (16, .inr (.int, 16)), (15, .inl 1), (14, .inr (.object "FourCars$Term", 16)), (13, .inr (.object "FourCars$Term", 16)), (12, .inr (.int, 16)), (11, .inl 1), (10, .inr (.object "FourCars$Term", 16)), (9, .inr (.object "FourCars$Term", 16)), (8, .inr (.int, 16)), (7, .inl 1), (6, .inr (.object "FourCars$Text", 3)), (5, .inr (.object "java/lang/String", 4)), (4, .inr (.object "java/lang/String", 10)), (3, .inr (.object "java/lang/String", 3)), (2, .inr (.object "java/lang/String", 2)), (1, .inr (.byte, 400)), (0, .inl 0)]
def fcC (g : fc_G) : List (Nat × Nat × Value) := [(0, 29, .ref (fc_B g + 244)), (0, 28, .ref (fc_B g + 243)), (0, 25, .ref (fc_B g + 242)), (0, 24, .ref (fc_B g + 241)), (0, 23, .ref (fc_B g + 240)), (0, 22, .ref (fc_B g + 235)), (235, 3, .ref (fc_B g + 239)), (235, 2, .ref (fc_B g + 238)), (235, 1, .ref (fc_B g + 237)), (235, 0, .ref (fc_B g + 236)), (0, 21, .ref (fc_B g + 234)), (0, 20, .ref (fc_B g + 233)), (0, 19, .ref (fc_B g + 166)), (0, 18, .ref (fc_B g + 99)), (0, 17, .ref (fc_B g + 32)), (32, 5, .null), (0, 16, .ref (fc_B g + 31)), (0, 15, .ref (fc_B g + 30)), (0, 14, .ref (fc_B g + 19)), (19, 8, .ref (fc_B g + 25)), (25, 3, .ref (fc_B g + 29)), (25, 2, .ref (fc_B g + 28)), (25, 1, .ref (fc_B g + 27)), (25, 0, .ref (fc_B g + 26)), (19, 7, .ref (fc_B g + 24)), (19, 6, .ref (fc_B g + 23)), (19, 5, .ref (fc_B g + 22)), (19, 4, .ref (fc_B g + 21)), (19, 3, .ref (fc_B g + 20)), (0, 13, .ref (fc_B g + 6)), (6, 2, .ref (fc_B g + 15)), (15, 2, .ref (fc_B g + 18)), (15, 1, .ref (fc_B g + 17)), (15, 0, .ref (fc_B g + 16)), (6, 1, .ref (fc_B g + 11)), (11, 2, .ref (fc_B g + 14)), (11, 1, .ref (fc_B g + 13)), (11, 0, .ref (fc_B g + 12)), (6, 0, .ref (fc_B g + 7)), (7, 2, .ref (fc_B g + 10)), (7, 1, .ref (fc_B g + 9)), (7, 0, .ref (fc_B g + 8)), (0, 5, .ref (fc_B g + 5)), (5, 3, .ref (fc_sK g 17)), (5, 2, .ref (fc_sK g 16)), (5, 1, .ref (fc_sK g 15)), (5, 0, .ref (fc_sK g 14)), (0, 4, .ref (fc_B g + 4)), (4, 9, .ref (fc_sK g 3)), (4, 8, .ref (fc_sK g 13)), (4, 7, .ref (fc_sK g 12)), (4, 6, .ref (fc_sK g 11)), (4, 5, .ref (fc_sK g 10)), (4, 4, .ref (fc_sK g 9)), (4, 3, .ref (fc_sK g 8)), (4, 2, .ref (fc_sK g 7)), (4, 1, .ref (fc_sK g 6)), (4, 0, .ref (fc_sK g 5)), (0, 3, .ref (fc_B g + 3)), (3, 2, .ref (fc_sK g 4)), (3, 1, .ref (fc_sK g 3)), (3, 0, .ref (fc_sK g 2)), (0, 2, .ref (fc_B g + 2)), (2, 1, .ref (fc_sK g 1)), (2, 0, .ref (fc_sK g 0)), (0, 0, .ref (fc_B g + 1)), (0, 27, .null)]
def fcE : List (Nat × Nat) := [(166, 6), (229, 4), (230, 4), (231, 4), (232, 4), (99, 6), (162, 4), (163, 4), (164, 4), (165, 4), (32, 6), (95, 4), (96, 4), (97, 4), (98, 4), (0, 12)]
set_option maxHeartbeats 8000000 in
theorem d_iFour (h : IQ g M S U 1 30 [(0, .inl 0)] [(0, 27, .null)] [] []) : fc_CX g l yX0_init cX0_init 1 none 4 [.ref (fc_B g + 0)] (cl M S U) (fun o M2 => o = .returned none ∧ ∃ M1 S1 U1, M2 = cl M1 S1 U1 ∧ IQ g M1 S1 U1 245 3065 fcS (fcC g) fcE [166, 99, 32]) := by
  refine fc_enter (by decide) (Nat.le_of_ble_eq_true rfl) rfl ?_
  refine x_aload_n dX0_init_0 rfl ?_
  refine x_obj dX0_init_1 q149 q150 q151 (by omega) (Nat.le_of_ble_eq_true rfl) ?_
  refine x_aload_n dX0_init_4 rfl ?_
  refine x_sipush (v := nI 400) dX0_init_5 (by decide) ?_
  refine i_newa (ty := .byte) (N := 400) h dX0_init_8 rfl (by decide) q200 (by decide) (by decide) ⟨rfl, fun _ => rfl⟩ rfl (fun M S h => ?_)
  refine i_putF 0 0 (C := RX0) (T := TX0) (N := 30) h dX0_init_10 rfl (by decide) q395 rfl rfl rfl rfl rfl (by simp) rfl rfl rfl (fun M h => ?_)
  refine x_aload_n dX0_init_13 rfl ?_
  refine x_ic2 dX0_init_14 ?_
  refine i_anew (N := 2) h dX0_init_15 (by decide) q152 q153 (by decide) (fun M S h => ?_)
  refine x_dup dX0_init_18 rfl ?_
  refine x_ic0 dX0_init_19 ?_
  refine x_ldcS (j := 0) rfl rfl rfl dX0_init_20 ?_
  refine i_aastK (N := 2) (i := 0) (j := 0) h dX0_init_22 (by simp) (by decide) (by decide) rfl rfl rfl (fun M h => ?_)
  refine x_dup dX0_init_23 rfl ?_
  refine x_ic1 dX0_init_24 ?_
  refine x_ldcS (j := 1) rfl rfl rfl dX0_init_25 ?_
  refine i_aastK (N := 2) (i := 1) (j := 1) h dX0_init_27 (by simp) (by decide) (by decide) rfl rfl rfl (fun M h => ?_)
  refine i_putF 0 2 (C := RX0) (T := TX0) (N := 30) h dX0_init_28 rfl (by decide) q397 rfl rfl rfl rfl rfl (by simp) rfl rfl rfl (fun M h => ?_)
  refine x_aload_n dX0_init_31 rfl ?_
  refine x_ic3 dX0_init_32 ?_
  refine i_anew (N := 3) h dX0_init_33 (by decide) q152 q153 (by decide) (fun M S h => ?_)
  refine x_dup dX0_init_36 rfl ?_
  refine x_ic0 dX0_init_37 ?_
  refine x_ldcS (j := 2) rfl rfl rfl dX0_init_38 ?_
  refine i_aastK (N := 3) (i := 0) (j := 2) h dX0_init_40 (by simp) (by decide) (by decide) rfl rfl rfl (fun M h => ?_)
  refine x_dup dX0_init_41 rfl ?_
  refine x_ic1 dX0_init_42 ?_
  refine x_ldcS (j := 3) rfl rfl rfl dX0_init_43 ?_
  refine i_aastK (N := 3) (i := 1) (j := 3) h dX0_init_45 (by simp) (by decide) (by decide) rfl rfl rfl (fun M h => ?_)
  refine x_dup dX0_init_46 rfl ?_
  refine x_ic2 dX0_init_47 ?_
  refine x_ldcS (j := 4) rfl rfl rfl dX0_init_48 ?_
  refine i_aastK (N := 3) (i := 2) (j := 4) h dX0_init_50 (by simp) (by decide) (by decide) rfl rfl rfl (fun M h => ?_)
  refine i_putF 0 3 (C := RX0) (T := TX0) (N := 30) h dX0_init_51 rfl (by decide) q398 rfl rfl rfl rfl rfl (by simp) rfl rfl rfl (fun M h => ?_)
  refine x_aload_n dX0_init_54 rfl ?_
  refine x_bipush (v := nI 10) dX0_init_55 (by decide) ?_
  refine i_anew (N := 10) h dX0_init_57 (by decide) q152 q153 (by decide) (fun M S h => ?_)
  refine x_dup dX0_init_60 rfl ?_
  refine x_ic0 dX0_init_61 ?_
  refine x_ldcS (j := 5) rfl rfl rfl dX0_init_62 ?_
  refine i_aastK (N := 10) (i := 0) (j := 5) h dX0_init_64 (by simp) (by decide) (by decide) rfl rfl rfl (fun M h => ?_)
  refine x_dup dX0_init_65 rfl ?_
  refine x_ic1 dX0_init_66 ?_
  refine x_ldcS (j := 6) rfl rfl rfl dX0_init_67 ?_
  refine i_aastK (N := 10) (i := 1) (j := 6) h dX0_init_69 (by simp) (by decide) (by decide) rfl rfl rfl (fun M h => ?_)
  refine x_dup dX0_init_70 rfl ?_
  refine x_ic2 dX0_init_71 ?_
  refine x_ldcS (j := 7) rfl rfl rfl dX0_init_72 ?_
  refine i_aastK (N := 10) (i := 2) (j := 7) h dX0_init_74 (by simp) (by decide) (by decide) rfl rfl rfl (fun M h => ?_)
  refine x_dup dX0_init_75 rfl ?_
  refine x_ic3 dX0_init_76 ?_
  refine x_ldcS (j := 8) rfl rfl rfl dX0_init_77 ?_
  refine i_aastK (N := 10) (i := 3) (j := 8) h dX0_init_79 (by simp) (by decide) (by decide) rfl rfl rfl (fun M h => ?_)
  refine x_dup dX0_init_80 rfl ?_
  refine x_ic4 dX0_init_81 ?_
  refine x_ldcS (j := 9) rfl rfl rfl dX0_init_82 ?_
  refine i_aastK (N := 10) (i := 4) (j := 9) h dX0_init_84 (by simp) (by decide) (by decide) rfl rfl rfl (fun M h => ?_)
  refine x_dup dX0_init_85 rfl ?_
  refine x_ic5 dX0_init_86 ?_
  refine x_ldcS (j := 10) rfl rfl rfl dX0_init_87 ?_
  refine i_aastK (N := 10) (i := 5) (j := 10) h dX0_init_89 (by simp) (by decide) (by decide) rfl rfl rfl (fun M h => ?_)
  refine x_dup dX0_init_90 rfl ?_
  refine x_bipush (v := nI 6) dX0_init_91 (by decide) ?_
  refine x_ldcS (j := 11) rfl rfl rfl dX0_init_93 ?_
  refine i_aastK (N := 10) (i := 6) (j := 11) h dX0_init_95 (by simp) (by decide) (by decide) rfl rfl rfl (fun M h => ?_)
  refine x_dup dX0_init_96 rfl ?_
  refine x_bipush (v := nI 7) dX0_init_97 (by decide) ?_
  refine x_ldcS (j := 12) rfl rfl rfl dX0_init_99 ?_
  refine i_aastK (N := 10) (i := 7) (j := 12) h dX0_init_101 (by simp) (by decide) (by decide) rfl rfl rfl (fun M h => ?_)
  refine x_dup dX0_init_102 rfl ?_
  refine x_bipush (v := nI 8) dX0_init_103 (by decide) ?_
  refine x_ldcS (j := 13) rfl rfl rfl dX0_init_105 ?_
  refine i_aastK (N := 10) (i := 8) (j := 13) h dX0_init_107 (by simp) (by decide) (by decide) rfl rfl rfl (fun M h => ?_)
  refine x_dup dX0_init_108 rfl ?_
  refine x_bipush (v := nI 9) dX0_init_109 (by decide) ?_
  refine x_ldcS (j := 3) rfl rfl rfl dX0_init_111 ?_
  refine i_aastK (N := 10) (i := 9) (j := 3) h dX0_init_113 (by simp) (by decide) (by decide) rfl rfl rfl (fun M h => ?_)
  refine i_putF 0 4 (C := RX0) (T := TX0) (N := 30) h dX0_init_114 rfl (by decide) q399 rfl rfl rfl rfl rfl (by simp) rfl rfl rfl (fun M h => ?_)
  refine x_aload_n dX0_init_117 rfl ?_
  refine x_ic4 dX0_init_118 ?_
  refine i_anew (N := 4) h dX0_init_119 (by decide) q152 q153 (by decide) (fun M S h => ?_)
  refine x_dup dX0_init_122 rfl ?_
  refine x_ic0 dX0_init_123 ?_
  refine x_ldcS (j := 14) rfl rfl rfl dX0_init_124 ?_
  refine i_aastK (N := 4) (i := 0) (j := 14) h dX0_init_126 (by simp) (by decide) (by decide) rfl rfl rfl (fun M h => ?_)
  refine x_dup dX0_init_127 rfl ?_
  refine x_ic1 dX0_init_128 ?_
  refine x_ldcS (j := 15) rfl rfl rfl dX0_init_129 ?_
  refine i_aastK (N := 4) (i := 1) (j := 15) h dX0_init_131 (by simp) (by decide) (by decide) rfl rfl rfl (fun M h => ?_)
  refine x_dup dX0_init_132 rfl ?_
  refine x_ic2 dX0_init_133 ?_
  refine x_ldcS (j := 16) rfl rfl rfl dX0_init_134 ?_
  refine i_aastK (N := 4) (i := 2) (j := 16) h dX0_init_136 (by simp) (by decide) (by decide) rfl rfl rfl (fun M h => ?_)
  refine x_dup dX0_init_137 rfl ?_
  refine x_ic3 dX0_init_138 ?_
  refine x_ldcS (j := 17) rfl rfl rfl dX0_init_139 ?_
  refine i_aastK (N := 4) (i := 3) (j := 17) h dX0_init_141 (by simp) (by decide) (by decide) rfl rfl rfl (fun M h => ?_)
  refine i_putF 0 5 (C := RX0) (T := TX0) (N := 30) h dX0_init_142 rfl (by decide) q400 rfl rfl rfl rfl rfl (by simp) rfl rfl rfl (fun M h => ?_)
  refine x_aload_n dX0_init_145 rfl ?_
  refine x_icm1 dX0_init_146 ?_
  refine i_puti 0 12 (C := RX0) (T := TX0) (N := 30) h dX0_init_147 rfl (by decide) q407 rfl rfl rfl (by simp) rfl (fun S h => ?_)
  refine x_aload_n dX0_init_150 rfl ?_
  refine x_ic3 dX0_init_151 ?_
  refine i_anew (N := 3) h dX0_init_152 (by decide) q172 q173 (by decide) (fun M S h => ?_)
  refine x_dup dX0_init_155 rfl ?_
  refine x_ic0 dX0_init_156 ?_
  refine i_new 1 (C := RX1) (T := TX1) (N := 4) h dX0_init_157 rfl q172 q174 q119 (fun M S U h _ => ?_)
  refine x_dup dX0_init_160 rfl ?_
  refine i_text h dX0_init_161 q175 (by decide) (Nat.le_of_ble_eq_true rfl) (by simp) rfl rfl (fun M S h => ?_)
  refine i_aast (a := 6) (C := "FourCars$Text") (N := 3) (i := 0) (r := (RX1, TX1, 4)) h dX0_init_164 (by simp) (by decide) (by decide) (x := 7) (ci := 1) (by simp) rfl rfl rfl rfl (fun M h => ?_)
  refine x_dup dX0_init_165 rfl ?_
  refine x_ic1 dX0_init_166 ?_
  refine i_new 1 (C := RX1) (T := TX1) (N := 4) h dX0_init_167 rfl q172 q174 q119 (fun M S U h _ => ?_)
  refine x_dup dX0_init_170 rfl ?_
  refine i_text h dX0_init_171 q175 (by decide) (Nat.le_of_ble_eq_true rfl) (by simp) rfl rfl (fun M S h => ?_)
  refine i_aast (a := 6) (C := "FourCars$Text") (N := 3) (i := 1) (r := (RX1, TX1, 4)) h dX0_init_174 (by simp) (by decide) (by decide) (x := 11) (ci := 1) (by simp) rfl rfl rfl rfl (fun M h => ?_)
  refine x_dup dX0_init_175 rfl ?_
  refine x_ic2 dX0_init_176 ?_
  refine i_new 1 (C := RX1) (T := TX1) (N := 4) h dX0_init_177 rfl q172 q174 q119 (fun M S U h _ => ?_)
  refine x_dup dX0_init_180 rfl ?_
  refine i_text h dX0_init_181 q175 (by decide) (Nat.le_of_ble_eq_true rfl) (by simp) rfl rfl (fun M S h => ?_)
  refine i_aast (a := 6) (C := "FourCars$Text") (N := 3) (i := 2) (r := (RX1, TX1, 4)) h dX0_init_184 (by simp) (by decide) (by decide) (x := 15) (ci := 1) (by simp) rfl rfl rfl rfl (fun M h => ?_)
  refine i_putF 0 13 (C := RX0) (T := TX0) (N := 30) h dX0_init_185 rfl (by decide) q408 rfl rfl rfl rfl rfl (by simp) rfl rfl rfl (fun M h => ?_)
  refine x_aload_n dX0_init_188 rfl ?_
  refine i_new 2 (C := RX2) (T := TX2) (N := 9) h dX0_init_189 rfl q202 q203 q120 (fun M S U h _ => ?_)
  refine x_dup dX0_init_192 rfl ?_
  refine i_plan h dX0_init_193 q204 (by decide) (Nat.le_of_ble_eq_true rfl) (by simp) rfl rfl (fun M S h => ?_)
  refine i_putf 0 14 (C := RX0) (T := TX0) (N := 30) h dX0_init_196 rfl (by decide) q410 rfl rfl rfl (by simp) rfl rfl rfl (fun M h => ?_)
  refine x_aload_n dX0_init_199 rfl ?_
  refine x_bipush (v := nI 80) dX0_init_200 (by decide) ?_
  refine i_newa (ty := .int) (N := 80) h dX0_init_202 rfl (by decide) q201 (by decide) (by decide) ⟨rfl, fun _ => rfl⟩ rfl (fun M S h => ?_)
  refine i_putF 0 15 (C := RX0) (T := TX0) (N := 30) h dX0_init_204 rfl (by decide) q412 rfl rfl rfl rfl rfl (by simp) rfl rfl rfl (fun M h => ?_)
  refine x_aload_n dX0_init_207 rfl ?_
  refine x_bipush (v := nI 10) dX0_init_208 (by decide) ?_
  refine i_newa (ty := .int) (N := 10) h dX0_init_210 rfl (by decide) q201 (by decide) (by decide) ⟨rfl, fun _ => rfl⟩ rfl (fun M S h => ?_)
  refine i_putF 0 16 (C := RX0) (T := TX0) (N := 30) h dX0_init_212 rfl (by decide) q413 rfl rfl rfl rfl rfl (by simp) rfl rfl rfl (fun M h => ?_)
  refine x_aload_n dX0_init_215 rfl ?_
  refine i_new 3 (C := RX3) (T := TX3) (N := 12) h dX0_init_216 rfl q252 q253 q121 (fun M S U h hct => ?_)
  replace h := IQ_ct (a := 32) (k := 5) (v := .null) h (by decide) (hct 5)
  refine x_dup dX0_init_219 rfl ?_
  refine x_aload_n dX0_init_220 rfl ?_
  refine i_tower (β := 32) h dX0_init_221 q254 (by decide) (Nat.le_of_ble_eq_true rfl) (by simp) rfl rfl rfl (fun M S U h => ?_)
  refine i_putF 0 17 (C := RX0) (T := TX0) (N := 30) h dX0_init_224 rfl (by decide) q415 rfl rfl rfl rfl rfl (by simp) rfl rfl rfl (fun M h => ?_)
  refine x_aload_n dX0_init_227 rfl ?_
  refine i_new 3 (C := RX3) (T := TX3) (N := 12) h dX0_init_228 rfl q252 q253 q121 (fun M S U h hct => ?_)
  refine x_dup dX0_init_231 rfl ?_
  refine x_aload_n dX0_init_232 rfl ?_
  refine i_tower (β := 99) h dX0_init_233 q254 (by decide) (Nat.le_of_ble_eq_true rfl) (by simp) rfl rfl rfl (fun M S U h => ?_)
  refine i_putF 0 18 (C := RX0) (T := TX0) (N := 30) h dX0_init_236 rfl (by decide) q416 rfl rfl rfl rfl rfl (by simp) rfl rfl rfl (fun M h => ?_)
  refine x_aload_n dX0_init_239 rfl ?_
  refine i_new 3 (C := RX3) (T := TX3) (N := 12) h dX0_init_240 rfl q252 q253 q121 (fun M S U h hct => ?_)
  refine x_dup dX0_init_243 rfl ?_
  refine x_aload_n dX0_init_244 rfl ?_
  refine i_tower (β := 166) h dX0_init_245 q254 (by decide) (Nat.le_of_ble_eq_true rfl) (by simp) rfl rfl rfl (fun M S U h => ?_)
  refine i_putF 0 19 (C := RX0) (T := TX0) (N := 30) h dX0_init_248 rfl (by decide) q417 rfl rfl rfl rfl rfl (by simp) rfl rfl rfl (fun M h => ?_)
  refine x_aload_n dX0_init_251 rfl ?_
  refine x_bipush (v := nI 6) dX0_init_252 (by decide) ?_
  refine i_newa (ty := .int) (N := 6) h dX0_init_254 rfl (by decide) q201 (by decide) (by decide) ⟨rfl, fun _ => rfl⟩ rfl (fun M S h => ?_)
  refine i_putF 0 20 (C := RX0) (T := TX0) (N := 30) h dX0_init_256 rfl (by decide) q418 rfl rfl rfl rfl rfl (by simp) rfl rfl rfl (fun M h => ?_)
  refine x_aload_n dX0_init_259 rfl ?_
  refine x_bipush (v := nI 6) dX0_init_260 (by decide) ?_
  refine i_newa (ty := .int) (N := 6) h dX0_init_262 rfl (by decide) q201 (by decide) (by decide) ⟨rfl, fun _ => rfl⟩ rfl (fun M S h => ?_)
  refine i_putF 0 21 (C := RX0) (T := TX0) (N := 30) h dX0_init_264 rfl (by decide) q419 rfl rfl rfl rfl rfl (by simp) rfl rfl rfl (fun M h => ?_)
  refine x_aload_n dX0_init_267 rfl ?_
  refine x_ic4 dX0_init_268 ?_
  refine x_bipush (v := nI 80) dX0_init_269 (by decide) ?_
  refine i_grid (ty := .int) (k := 80) h dX0_init_271 (by decide) (by decide) q393 rfl (by decide) (by decide) rfl rfl (fun _ => rfl) rfl rfl rfl (fun M S h => ?_)
  refine i_putF 0 22 (C := RX0) (T := TX0) (N := 30) h dX0_init_275 rfl (by decide) q420 rfl rfl rfl rfl rfl (by simp) rfl rfl rfl (fun M h => ?_)
  refine x_aload_n dX0_init_278 rfl ?_
  refine x_ic4 dX0_init_279 ?_
  refine i_newa (ty := .int) (N := 4) h dX0_init_280 rfl (by decide) q201 (by decide) (by decide) ⟨rfl, fun _ => rfl⟩ rfl (fun M S h => ?_)
  refine i_putF 0 23 (C := RX0) (T := TX0) (N := 30) h dX0_init_282 rfl (by decide) q421 rfl rfl rfl rfl rfl (by simp) rfl rfl rfl (fun M h => ?_)
  refine x_aload_n dX0_init_285 rfl ?_
  refine x_ic4 dX0_init_286 ?_
  refine i_newa (ty := .int) (N := 4) h dX0_init_287 rfl (by decide) q201 (by decide) (by decide) ⟨rfl, fun _ => rfl⟩ rfl (fun M S h => ?_)
  refine i_putF 0 24 (C := RX0) (T := TX0) (N := 30) h dX0_init_289 rfl (by decide) q422 rfl rfl rfl rfl rfl (by simp) rfl rfl rfl (fun M h => ?_)
  refine x_aload_n dX0_init_292 rfl ?_
  refine x_ic3 dX0_init_293 ?_
  refine i_newa (ty := .int) (N := 3) h dX0_init_294 rfl (by decide) q201 (by decide) (by decide) ⟨rfl, fun _ => rfl⟩ rfl (fun M S h => ?_)
  refine i_putF 0 25 (C := RX0) (T := TX0) (N := 30) h dX0_init_296 rfl (by decide) q423 rfl rfl rfl rfl rfl (by simp) rfl rfl rfl (fun M h => ?_)
  refine x_aload_n dX0_init_299 rfl ?_
  refine x_ic3 dX0_init_300 ?_
  refine i_anew (N := 3) h dX0_init_301 (by decide) q172 q173 (by decide) (fun M S h => ?_)
  refine i_putF 0 28 (C := RX0) (T := TX0) (N := 30) h dX0_init_304 rfl (by decide) q426 rfl rfl rfl rfl rfl (by simp) rfl rfl rfl (fun M h => ?_)
  refine x_aload_n dX0_init_307 rfl ?_
  refine x_bipush (v := nI 80) dX0_init_308 (by decide) ?_
  refine i_newa (ty := .int) (N := 80) h dX0_init_310 rfl (by decide) q201 (by decide) (by decide) ⟨rfl, fun _ => rfl⟩ rfl (fun M S h => ?_)
  refine i_putF 0 29 (C := RX0) (T := TX0) (N := 30) h dX0_init_312 rfl (by decide) q427 rfl rfl rfl rfl rfl (by simp) rfl rfl rfl (fun M h => ?_)
  exact x_vret dX0_init_315 rfl ⟨rfl, M, S, U, rfl, h⟩
def fmS : List (Nat × fc_Sh) := [(261, .inr (.int, 4)), (260, .inr (.int, 4)), (259, .inr (.int, 4)), (258, .inr (.int, 320)), (257, .inr (.int, 60)), (256, .inr (.int, 60)), (255, .inr (.boolean, 320)), (254, .inr (.int, 11)), (253, .inr (.int, 420)), (252, .inr (.int, 400)), (251, .inr (.int, 40)), (250, .inr (.int, 820)), (249, .inr (.int, 64)), (248, .inr (.int, 1300)), (247, .inr (.int, 3970)), (246, .inr (.int, 3970)), (245, .inl 6)]
def fmC (g : fc_G) : List (Nat × Nat × Value) := [(245, 37, .ref (fc_B g + 261)), (245, 36, .ref (fc_B g + 260)), (245, 35, .ref (fc_B g + 259)), (245, 34, .ref (fc_B g + 258)), (245, 32, .ref (fc_B g + 257)), (245, 27, .ref (fc_B g + 256)), (245, 10, .ref (fc_B g + 255)), (245, 9, .ref (fc_B g + 254)), (245, 8, .ref (fc_B g + 253)), (245, 7, .ref (fc_B g + 252)), (245, 6, .ref (fc_B g + 251)), (245, 5, .ref (fc_B g + 250)), (245, 4, .ref (fc_B g + 249)), (245, 2, .ref (fc_B g + 248)), (245, 1, .ref (fc_B g + 247)), (245, 0, .ref (fc_B g + 246))]
def fmE : List (Nat × Nat) := [(245, 29), (245, 25)]
set_option maxHeartbeats 8000000 in
theorem d_iModel (h : IQ g M S U 246 s ((245, .inl 6) :: fcS) (fcC g) fcE [166, 99, 32]) : fc_CX g l yX6_init cX6_init 1 none 1 [.ref (fc_B g + 245)] (cl M S U) (fun o M2 => o = .returned none ∧ ∃ M1 S1 U1, M2 = cl M1 S1 U1 ∧ IQ g M1 S1 U1 262 (s + 11767) (fmS ++ fcS) (fmC g ++ fcC g) (fmE ++ fcE) [166, 99, 32]) := by
  refine fc_enter (by decide) (Nat.le_of_ble_eq_true rfl) rfl ?_
  refine x_aload_n dX6_init_0 rfl ?_
  refine x_obj dX6_init_1 q1129 q150 q151 (by omega) (Nat.le_of_ble_eq_true rfl) ?_
  refine x_aload_n dX6_init_4 rfl ?_
  refine x_sipush (v := nI 3970) dX6_init_5 (by decide) ?_
  refine i_newa (ty := .int) (N := 3970) h dX6_init_8 rfl (by decide) q201 (by decide) (by decide) ⟨rfl, fun _ => rfl⟩ rfl (fun M S h => ?_)
  refine i_putF 6 0 (C := RX6) (T := TX6) (N := 39) h dX6_init_10 rfl (by decide) q1130 rfl rfl rfl rfl rfl (by simp) rfl rfl rfl (fun M h => ?_)
  refine x_aload_n dX6_init_13 rfl ?_
  refine x_sipush (v := nI 3970) dX6_init_14 (by decide) ?_
  refine i_newa (ty := .int) (N := 3970) h dX6_init_17 rfl (by decide) q201 (by decide) (by decide) ⟨rfl, fun _ => rfl⟩ rfl (fun M S h => ?_)
  refine i_putF 6 1 (C := RX6) (T := TX6) (N := 39) h dX6_init_19 rfl (by decide) q1131 rfl rfl rfl rfl rfl (by simp) rfl rfl rfl (fun M h => ?_)
  refine x_aload_n dX6_init_22 rfl ?_
  refine x_sipush (v := nI 1300) dX6_init_23 (by decide) ?_
  refine i_newa (ty := .int) (N := 1300) h dX6_init_26 rfl (by decide) q201 (by decide) (by decide) ⟨rfl, fun _ => rfl⟩ rfl (fun M S h => ?_)
  refine i_putF 6 2 (C := RX6) (T := TX6) (N := 39) h dX6_init_28 rfl (by decide) q1132 rfl rfl rfl rfl rfl (by simp) rfl rfl rfl (fun M h => ?_)
  refine x_aload_n dX6_init_31 rfl ?_
  refine x_bipush (v := nI 64) dX6_init_32 (by decide) ?_
  refine i_newa (ty := .int) (N := 64) h dX6_init_34 rfl (by decide) q201 (by decide) (by decide) ⟨rfl, fun _ => rfl⟩ rfl (fun M S h => ?_)
  refine i_putF 6 4 (C := RX6) (T := TX6) (N := 39) h dX6_init_36 rfl (by decide) q1134 rfl rfl rfl rfl rfl (by simp) rfl rfl rfl (fun M h => ?_)
  refine x_aload_n dX6_init_39 rfl ?_
  refine x_sipush (v := nI 820) dX6_init_40 (by decide) ?_
  refine i_newa (ty := .int) (N := 820) h dX6_init_43 rfl (by decide) q201 (by decide) (by decide) ⟨rfl, fun _ => rfl⟩ rfl (fun M S h => ?_)
  refine i_putF 6 5 (C := RX6) (T := TX6) (N := 39) h dX6_init_45 rfl (by decide) q1135 rfl rfl rfl rfl rfl (by simp) rfl rfl rfl (fun M h => ?_)
  refine x_aload_n dX6_init_48 rfl ?_
  refine x_bipush (v := nI 40) dX6_init_49 (by decide) ?_
  refine i_newa (ty := .int) (N := 40) h dX6_init_51 rfl (by decide) q201 (by decide) (by decide) ⟨rfl, fun _ => rfl⟩ rfl (fun M S h => ?_)
  refine i_putF 6 6 (C := RX6) (T := TX6) (N := 39) h dX6_init_53 rfl (by decide) q1136 rfl rfl rfl rfl rfl (by simp) rfl rfl rfl (fun M h => ?_)
  refine x_aload_n dX6_init_56 rfl ?_
  refine x_sipush (v := nI 400) dX6_init_57 (by decide) ?_
  refine i_newa (ty := .int) (N := 400) h dX6_init_60 rfl (by decide) q201 (by decide) (by decide) ⟨rfl, fun _ => rfl⟩ rfl (fun M S h => ?_)
  refine i_putF 6 7 (C := RX6) (T := TX6) (N := 39) h dX6_init_62 rfl (by decide) q1137 rfl rfl rfl rfl rfl (by simp) rfl rfl rfl (fun M h => ?_)
  refine x_aload_n dX6_init_65 rfl ?_
  refine x_sipush (v := nI 420) dX6_init_66 (by decide) ?_
  refine i_newa (ty := .int) (N := 420) h dX6_init_69 rfl (by decide) q201 (by decide) (by decide) ⟨rfl, fun _ => rfl⟩ rfl (fun M S h => ?_)
  refine i_putF 6 8 (C := RX6) (T := TX6) (N := 39) h dX6_init_71 rfl (by decide) q1138 rfl rfl rfl rfl rfl (by simp) rfl rfl rfl (fun M h => ?_)
  refine x_aload_n dX6_init_74 rfl ?_
  refine x_bipush (v := nI 11) dX6_init_75 (by decide) ?_
  refine i_newa (ty := .int) (N := 11) h dX6_init_77 rfl (by decide) q201 (by decide) (by decide) ⟨rfl, fun _ => rfl⟩ rfl (fun M S h => ?_)
  refine i_putF 6 9 (C := RX6) (T := TX6) (N := 39) h dX6_init_79 rfl (by decide) q1139 rfl rfl rfl rfl rfl (by simp) rfl rfl rfl (fun M h => ?_)
  refine x_aload_n dX6_init_82 rfl ?_
  refine x_sipush (v := nI 320) dX6_init_83 (by decide) ?_
  refine i_newa (ty := .boolean) (N := 320) h dX6_init_86 rfl (by decide) q251 (by decide) (by decide) ⟨rfl, fun _ => rfl⟩ rfl (fun M S h => ?_)
  refine i_putF 6 10 (C := RX6) (T := TX6) (N := 39) h dX6_init_88 rfl (by decide) q1140 rfl rfl rfl rfl rfl (by simp) rfl rfl rfl (fun M h => ?_)
  refine x_aload_n dX6_init_91 rfl ?_
  refine x_icm1 dX6_init_92 ?_
  refine i_puti 6 25 (C := RX6) (T := TX6) (N := 39) h dX6_init_93 rfl (by decide) q1155 rfl rfl rfl (by simp) rfl (fun S h => ?_)
  refine x_aload_n dX6_init_96 rfl ?_
  refine x_bipush (v := nI 60) dX6_init_97 (by decide) ?_
  refine i_newa (ty := .int) (N := 60) h dX6_init_99 rfl (by decide) q201 (by decide) (by decide) ⟨rfl, fun _ => rfl⟩ rfl (fun M S h => ?_)
  refine i_putF 6 27 (C := RX6) (T := TX6) (N := 39) h dX6_init_101 rfl (by decide) q1157 rfl rfl rfl rfl rfl (by simp) rfl rfl rfl (fun M h => ?_)
  refine x_aload_n dX6_init_104 rfl ?_
  refine x_icm1 dX6_init_105 ?_
  refine i_puti 6 29 (C := RX6) (T := TX6) (N := 39) h dX6_init_106 rfl (by decide) q1159 rfl rfl rfl (by simp) rfl (fun S h => ?_)
  refine x_aload_n dX6_init_109 rfl ?_
  refine x_bipush (v := nI 60) dX6_init_110 (by decide) ?_
  refine i_newa (ty := .int) (N := 60) h dX6_init_112 rfl (by decide) q201 (by decide) (by decide) ⟨rfl, fun _ => rfl⟩ rfl (fun M S h => ?_)
  refine i_putF 6 32 (C := RX6) (T := TX6) (N := 39) h dX6_init_114 rfl (by decide) q1162 rfl rfl rfl rfl rfl (by simp) rfl rfl rfl (fun M h => ?_)
  refine x_aload_n dX6_init_117 rfl ?_
  refine x_sipush (v := nI 320) dX6_init_118 (by decide) ?_
  refine i_newa (ty := .int) (N := 320) h dX6_init_121 rfl (by decide) q201 (by decide) (by decide) ⟨rfl, fun _ => rfl⟩ rfl (fun M S h => ?_)
  refine i_putF 6 34 (C := RX6) (T := TX6) (N := 39) h dX6_init_123 rfl (by decide) q1164 rfl rfl rfl rfl rfl (by simp) rfl rfl rfl (fun M h => ?_)
  refine x_aload_n dX6_init_126 rfl ?_
  refine x_ic4 dX6_init_127 ?_
  refine i_newa (ty := .int) (N := 4) h dX6_init_128 rfl (by decide) q201 (by decide) (by decide) ⟨rfl, fun _ => rfl⟩ rfl (fun M S h => ?_)
  refine i_putF 6 35 (C := RX6) (T := TX6) (N := 39) h dX6_init_130 rfl (by decide) q1165 rfl rfl rfl rfl rfl (by simp) rfl rfl rfl (fun M h => ?_)
  refine x_aload_n dX6_init_133 rfl ?_
  refine x_ic4 dX6_init_134 ?_
  refine i_newa (ty := .int) (N := 4) h dX6_init_135 rfl (by decide) q201 (by decide) (by decide) ⟨rfl, fun _ => rfl⟩ rfl (fun M S h => ?_)
  refine i_putF 6 36 (C := RX6) (T := TX6) (N := 39) h dX6_init_137 rfl (by decide) q1166 rfl rfl rfl rfl rfl (by simp) rfl rfl rfl (fun M h => ?_)
  refine x_aload_n dX6_init_140 rfl ?_
  refine x_ic4 dX6_init_141 ?_
  refine i_newa (ty := .int) (N := 4) h dX6_init_142 rfl (by decide) q201 (by decide) (by decide) ⟨rfl, fun _ => rfl⟩ rfl (fun M S h => ?_)
  refine i_putF 6 37 (C := RX6) (T := TX6) (N := 39) h dX6_init_144 rfl (by decide) q1167 rfl rfl rfl rfl rfl (by simp) rfl rfl rfl (fun M h => ?_)
  exact x_vret dX6_init_147 rfl ⟨rfl, M, S, U, rfl, h⟩
end T99ZZZR

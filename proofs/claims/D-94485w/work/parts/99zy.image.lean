set_option maxRecDepth 100000
section T99ZY
variable {g : fc_G} {l : Launch} {M : fc_M} {S : tT} {U : tU} {v : Nat → Int32} {π n : Nat}
theorem x_ifnonnullN {y : MethodName} {cc : ByteArray} {nL : Nat} {ret : Option FieldType} {d n0 s0 : Nat} {pc : Nat} {L : List (Option Value)} {st : List Value} {Q : Outcome → fc_M → Prop} {off : Int} (hd : decode cc pc = .ok (.ifnonnull off, 3)) (k : fc_X g l y cc nL ret d n0 s0 M (pc + 3) L st Q) : fc_X g l y cc nL ret d n0 s0 M pc L (.null :: st) Q :=
  fc_go (fun R p e s m args below meth c H ls locs cells slots Qs Mf hSt hR hS hL k => lv_ifnonnullN hSt.1 hSt.2.1 hd k) k
theorem ct_pn {a b j k : Nat} {v : Value} (h : ¬ (a = b ∧ k = j)) : fc_ct (fc_put M b j v) a k = fc_ct M a k := if_neg h
theorem LF_of {M2 : fc_M} (h : LF g M) (hn : fc_nx M2 = fc_nx M) (hs : ∀ a, fc_sh M2 a = fc_sh M a) (hc : ∀ k b, lfR k = some b → fc_ct M2 0 k = fc_ct M 0 k) : LF g M2 := ⟨by rw [hn]; exact h.1, fun k b hk => (hc k b hk).trans (h.2.1 k b hk), fun a s ha => (hs a).trans (h.2.2 a s ha)⟩
theorem LF_p0 {v : Value} {j : Nat} (hj : lfR j = none) (h : LF g M) : LF g (fc_put M 0 j v) := LF_of h rfl (fun _ => rfl) (fun k b hk => if_neg (fun z => by rw [z.2, hj] at hk; cases hk))
theorem LF_cp {a0 a m : Nat} (ha : a ≠ 0) (h : LF g M) : LF g (fc_cp M a0 a m) := LF_of h rfl (fun _ => rfl) (fun k b hk => if_neg (fun z => ha z.1.symm))
def imTM (g : fc_G) (M : fc_M) (π : Nat) : fc_M := fc_cp (fc_put (fc_put M 166 5 .null) 0 27 (.ref (fc_B g + π))) 6 243 3
def imTS (S : tT) (v : Nat → Int32) (n : Nat) : tT := cpS (clr (tu S 166 6 (-1)) 166 (vtW S 166 n v)) 30 244 80
def imBM (g : fc_G) (M : fc_M) (π : Nat) : fc_M := fc_cp (fc_put (fc_put M 32 5 .null) 0 14 (.ref (fc_B g + π))) 243 6 3
def imBS (S : tT) (v : Nat → Int32) (n : Nat) : tT := cpS (clr (tu S 32 6 (-1)) 32 (vtW S 32 n v)) 244 30 80
set_option maxHeartbeats 1000000 in
theorem d_imageT (hF : LF g M) (hL : LT g M 32) (hL3 : LT g M 166) (ho : ∀ c, c < 4 → v (10 + 20 * c + 4) = 0 ∨ v (10 + 20 * c + 4) = nI 1) (hn : n ≤ 60) (hw : v 2 = nI n) (hπ : fc_ct M 0 14 = .ref (fc_B g + π)) (hv : clr S 32 v = S) (hr : ∀ k, k < 3 → ∃ t, t < fc_nx M ∧ fc_sh M t = .inl 1 ∧ fc_ct M 6 k = .ref (fc_B g + t)) {x : Int32} (hx : ¬ x = 0) : fc_CX g l yX0_image cX0_image 2 (some .boolean) 3 [.ref (fc_B g + 0), .int x] (cl M S U) (fc_re (nI 1) (cl (imTM g M π) (imTS S v n) (bcU U 166 32))) := by
  refine fc_enter (by decide) (Nat.le_of_ble_eq_true rfl) rfl ?_
  refine x_iload_n dX0_image_0 rfl ?_
  refine x_if_ne (tgt := 13) dX0_image_1 (by decide) (fun hc1 => ?_) (fun hc1 => ?_)
  · refine x_iload_n dX0_image_13 rfl ?_
    refine x_if_eq (tgt := 68) dX0_image_14 (by decide) (fun hc14 => ?_) (fun hc14 => ?_)
    · exact absurd hc14 hx
    · refine x_aload_n dX0_image_17 rfl ?_
      refine q_getr 0 19 dX0_image_18 (C := RX0) (T := TX0) (N := 30) rfl (by decide) q417 (by have := hF.1; omega) (hF.2.2 0 _ rfl) rfl (hF.2.1 19 _ rfl) ?_
      refine x_aload_n dX0_image_21 rfl ?_
      refine q_getr 0 17 dX0_image_22 (C := RX0) (T := TX0) (N := 30) rfl (by decide) q415 (by have := hF.1; omega) (hF.2.2 0 _ rfl) rfl (hF.2.1 17 _ rfl) ?_
      refine x_eqM (congrArg (fun z => cl M z U) hv.symm) ?_
      refine x_V1v (P := fun M3 => M3 = cR (fc_put M 166 5 .null) (tu (clr S 32 v) 166 6 (-1)) (bcU U 166 32) 166 (vtW S 166 n v)) 3 dX0_image_25 kG_X0_X3_become kP_X3_become (T := TX3) (N := 12) rfl (show 166 < fc_nx M by have := hL3.1; omega) hL3.sh0 (by omega) (by decide) (Nat.le_of_ble_eq_true rfl) (fc_rn_v (d_becomeT hL3 hL (Or.inl (by decide)) ho hn hw)) (fun M3 e9 => ?_)
      subst e9
      rw [hv]
      have hF0 := hF
      have hF : LF g (fc_put M 166 5 .null) := LF_put (by decide) hF0
      have hr : ∀ k, k < 3 → ∃ t, t < fc_nx M ∧ fc_sh M t = .inl 1 ∧ fc_ct (fc_put M 166 5 .null) 6 k = .ref (fc_B g + t) := fun k hk => by
        obtain ⟨t, t1, t2, t3⟩ := hr k hk
        exact ⟨t, t1, t2, (ct_pn (fun z => absurd z.1 (by decide))).trans t3⟩
      generalize hM1 : fc_put M 166 5 .null = M1 at hF hr ⊢
      have hnx : fc_nx M1 = fc_nx M := by rw [← hM1]; rfl
      have hsh : ∀ a, fc_sh M1 a = fc_sh M a := fun a => by rw [← hM1]; rfl
      refine x_aload_n dX0_image_28 rfl ?_
      refine x_aload_n dX0_image_29 rfl ?_
      refine q_getr 0 14 dX0_image_30 (C := RX0) (T := TX0) (N := 30) rfl (by decide) q410 (by have := hF.1; omega) (hF.2.2 0 _ rfl) rfl (x := .ref (fc_B g + π)) (by rw [← hM1]; exact (ct_pn (fun z => absurd z.1 (by decide))).trans hπ) ?_
      refine x_putf 0 27 dX0_image_33 (C := RX0) (T := TX0) (N := 30) rfl (by decide) q425 rfl rfl rfl (show 0 < fc_nx M1 by have := hF.1; omega) (hF.2.2 0 _ rfl) ?_
      rw [cl_putr (by rw [hF.2.2 0 _ rfl]; rfl)]
      have hF := LF_p0 (j := 27) (v := .ref (fc_B g + π)) rfl hF
      have hr : ∀ j, j < 3 → ∃ t, t < fc_nx M ∧ fc_sh M t = .inl 1 ∧ fc_ct (fc_put M1 0 27 (.ref (fc_B g + π))) 6 j = .ref (fc_B g + t) := fun k hk => by
        obtain ⟨t, t1, t2, t3⟩ := hr k hk
        exact ⟨t, t1, t2, (ct_pn (fun z => absurd z.1 (by decide))).trans t3⟩
      generalize hM2 : fc_put M1 0 27 (.ref (fc_B g + π)) = M2 at hF hr ⊢
      have hnx2 : fc_nx M2 = fc_nx M := by rw [← hnx, ← hM2]; rfl
      have hsh2 : ∀ a, fc_sh M2 a = fc_sh M a := fun a => by rw [← hsh, ← hM2]; rfl
      refine x_aload_n dX0_image_36 rfl ?_
      refine q_getr 0 13 dX0_image_37 (C := RX0) (T := TX0) (N := 30) rfl (by decide) q408 (by have := hF.1; omega) (hF.2.2 0 _ rfl) rfl (hF.2.1 13 _ rfl) ?_
      refine x_ic0 dX0_image_40 ?_
      refine x_aload_n dX0_image_41 rfl ?_
      refine q_getr 0 28 dX0_image_42 (C := RX0) (T := TX0) (N := 30) rfl (by decide) q426 (by have := hF.1; omega) (hF.2.2 0 _ rfl) rfl (hF.2.1 28 _ rfl) ?_
      refine x_ic0 dX0_image_45 ?_
      refine x_ic3 dX0_image_46 ?_
      refine x_copy (ty := .object RX1) dX0_image_47 q1062 (show 6 < fc_nx M2 by have := hF.1; omega) (show 243 < fc_nx M2 by have := hF.1; omega) (hF.2.2 6 _ rfl) (hF.2.2 243 _ rfl) (by decide) (by decide) (by decide) (by decide) (by omega) (Nat.le_of_ble_eq_true rfl) (fun k hk => ?_) ?_
      · obtain ⟨t, t1, t2, t3⟩ := hr k hk
        exact Or.inr ⟨rfl, t, by rw [← hnx2] at t1; exact t1, (hsh2 t).trans t2, (cl_r (by rw [hF.2.2 6 _ rfl]; rfl)).trans t3⟩
      refine x_eqM (cl_cpr (C := RX1) (hF.2.2 6 _ rfl) (hF.2.2 243 _ rfl)) ?_
      have hF := LF_cp (a0 := 6) (a := 243) (m := 3) (by decide) hF
      refine x_aload_n dX0_image_50 rfl ?_
      refine q_getr 0 15 dX0_image_51 (C := RX0) (T := TX0) (N := 30) rfl (by decide) q412 (by have := hF.1; omega) (hF.2.2 0 _ rfl) rfl (hF.2.1 15 _ rfl) ?_
      refine x_ic0 dX0_image_54 ?_
      refine x_aload_n dX0_image_55 rfl ?_
      refine q_getr 0 29 dX0_image_56 (C := RX0) (T := TX0) (N := 30) rfl (by decide) q427 (by have := hF.1; omega) (hF.2.2 0 _ rfl) rfl (hF.2.1 29 _ rfl) ?_
      refine x_ic0 dX0_image_59 ?_
      refine x_bipush (v := nI 80) dX0_image_60 (by decide) ?_
      refine x_copy (ty := .int) dX0_image_62 q1062 (show 30 < fc_nx (fc_cp M2 6 243 3) by have := hF.1; omega) (show 244 < fc_nx (fc_cp M2 6 243 3) by have := hF.1; omega) (hF.2.2 30 _ rfl) (hF.2.2 244 _ rfl) (by decide) (by decide) (by decide) (by decide) (by omega) (Nat.le_of_ble_eq_true rfl) (fun k hk => Or.inl ⟨_, rfl, cl_i (by rw [hF.2.2 30 _ rfl]; rfl)⟩) ?_
      refine x_eqM (cl_cpi (hF.2.2 30 _ rfl) (hF.2.2 244 _ rfl)) ?_
      refine x_goto (tgt := 116) dX0_image_65 (by decide) ?_
      refine x_ic1 dX0_image_116 ?_
      subst hM2
      subst hM1
      exact x_iret dX0_image_117 rfl rfl fc_re.of
  · exact absurd hc1 hx
set_option maxHeartbeats 1000000 in
theorem d_imageB (hF : LF g M) (hL : LT g M 32) (hL3 : LT g M 166) (ho : ∀ c, c < 4 → v (10 + 20 * c + 4) = 0 ∨ v (10 + 20 * c + 4) = nI 1) (hn : n ≤ 60) (hw : v 2 = nI n) (hπ : fc_ct M 0 27 = .ref (fc_B g + π)) (hv : clr S 166 v = S) (hr : ∀ k, k < 3 → ∃ t, t < fc_nx M ∧ fc_sh M t = .inl 1 ∧ fc_ct M 243 k = .ref (fc_B g + t)) {x : Int32} (hx : x = 0) : fc_CX g l yX0_image cX0_image 2 (some .boolean) 3 [.ref (fc_B g + 0), .int x] (cl M S U) (fc_re (nI 1) (cl (imBM g M π) (imBS S v n) (bcU U 32 166))) := by
  refine fc_enter (by decide) (Nat.le_of_ble_eq_true rfl) rfl ?_
  refine x_iload_n dX0_image_0 rfl ?_
  refine x_if_ne (tgt := 13) dX0_image_1 (by decide) (fun hc1 => ?_) (fun hc1 => ?_)
  · exact absurd hx hc1
  · refine x_aload_n dX0_image_4 rfl ?_
    refine q_getr 0 27 dX0_image_5 (C := RX0) (T := TX0) (N := 30) rfl (by decide) q425 (by have := hF.1; omega) (hF.2.2 0 _ rfl) rfl hπ ?_
    refine x_ifnonnull (tgt := 13) dX0_image_8 (by decide) ?_
    refine x_iload_n dX0_image_13 rfl ?_
    refine x_if_eq (tgt := 68) dX0_image_14 (by decide) (fun hc14 => ?_) (fun hc14 => ?_)
    · refine x_aload_n dX0_image_68 rfl ?_
      refine q_getr 0 17 dX0_image_69 (C := RX0) (T := TX0) (N := 30) rfl (by decide) q415 (by have := hF.1; omega) (hF.2.2 0 _ rfl) rfl (hF.2.1 17 _ rfl) ?_
      refine x_aload_n dX0_image_72 rfl ?_
      refine q_getr 0 19 dX0_image_73 (C := RX0) (T := TX0) (N := 30) rfl (by decide) q417 (by have := hF.1; omega) (hF.2.2 0 _ rfl) rfl (hF.2.1 19 _ rfl) ?_
      refine x_eqM (congrArg (fun z => cl M z U) hv.symm) ?_
      refine x_V1v (P := fun M3 => M3 = cR (fc_put M 32 5 .null) (tu (clr S 166 v) 32 6 (-1)) (bcU U 32 166) 32 (vtW S 32 n v)) 3 dX0_image_76 kG_X0_X3_become kP_X3_become (T := TX3) (N := 12) rfl (show 32 < fc_nx M by have := hL.1; omega) hL.sh0 (by omega) (by decide) (Nat.le_of_ble_eq_true rfl) (fc_rn_v (d_becomeT hL hL3 (Or.inr (by decide)) ho hn hw)) (fun M3 e9 => ?_)
      subst e9
      rw [hv]
      have hF0 := hF
      have hF : LF g (fc_put M 32 5 .null) := LF_put (by decide) hF0
      have hr : ∀ k, k < 3 → ∃ t, t < fc_nx M ∧ fc_sh M t = .inl 1 ∧ fc_ct (fc_put M 32 5 .null) 243 k = .ref (fc_B g + t) := fun k hk => by
        obtain ⟨t, t1, t2, t3⟩ := hr k hk
        exact ⟨t, t1, t2, (ct_pn (fun z => absurd z.1 (by decide))).trans t3⟩
      generalize hM1 : fc_put M 32 5 .null = M1 at hF hr ⊢
      have hnx : fc_nx M1 = fc_nx M := by rw [← hM1]; rfl
      have hsh : ∀ a, fc_sh M1 a = fc_sh M a := fun a => by rw [← hM1]; rfl
      refine x_aload_n dX0_image_79 rfl ?_
      refine x_aload_n dX0_image_80 rfl ?_
      refine q_getr 0 27 dX0_image_81 (C := RX0) (T := TX0) (N := 30) rfl (by decide) q425 (by have := hF.1; omega) (hF.2.2 0 _ rfl) rfl (x := .ref (fc_B g + π)) (by rw [← hM1]; exact (ct_pn (fun z => absurd z.1 (by decide))).trans hπ) ?_
      refine x_putf 0 14 dX0_image_84 (C := RX0) (T := TX0) (N := 30) rfl (by decide) q410 rfl rfl rfl (show 0 < fc_nx M1 by have := hF.1; omega) (hF.2.2 0 _ rfl) ?_
      rw [cl_putr (by rw [hF.2.2 0 _ rfl]; rfl)]
      have hF := LF_p0 (j := 14) (v := .ref (fc_B g + π)) rfl hF
      have hr : ∀ j, j < 3 → ∃ t, t < fc_nx M ∧ fc_sh M t = .inl 1 ∧ fc_ct (fc_put M1 0 14 (.ref (fc_B g + π))) 243 j = .ref (fc_B g + t) := fun k hk => by
        obtain ⟨t, t1, t2, t3⟩ := hr k hk
        exact ⟨t, t1, t2, (ct_pn (fun z => absurd z.1 (by decide))).trans t3⟩
      generalize hM2 : fc_put M1 0 14 (.ref (fc_B g + π)) = M2 at hF hr ⊢
      have hnx2 : fc_nx M2 = fc_nx M := by rw [← hnx, ← hM2]; rfl
      have hsh2 : ∀ a, fc_sh M2 a = fc_sh M a := fun a => by rw [← hsh, ← hM2]; rfl
      refine x_aload_n dX0_image_87 rfl ?_
      refine q_getr 0 28 dX0_image_88 (C := RX0) (T := TX0) (N := 30) rfl (by decide) q426 (by have := hF.1; omega) (hF.2.2 0 _ rfl) rfl (hF.2.1 28 _ rfl) ?_
      refine x_ic0 dX0_image_91 ?_
      refine x_aload_n dX0_image_92 rfl ?_
      refine q_getr 0 13 dX0_image_93 (C := RX0) (T := TX0) (N := 30) rfl (by decide) q408 (by have := hF.1; omega) (hF.2.2 0 _ rfl) rfl (hF.2.1 13 _ rfl) ?_
      refine x_ic0 dX0_image_96 ?_
      refine x_ic3 dX0_image_97 ?_
      refine x_copy (ty := .object RX1) dX0_image_98 q1062 (show 243 < fc_nx M2 by have := hF.1; omega) (show 6 < fc_nx M2 by have := hF.1; omega) (hF.2.2 243 _ rfl) (hF.2.2 6 _ rfl) (by decide) (by decide) (by decide) (by decide) (by omega) (Nat.le_of_ble_eq_true rfl) (fun k hk => ?_) ?_
      · obtain ⟨t, t1, t2, t3⟩ := hr k hk
        exact Or.inr ⟨rfl, t, by rw [← hnx2] at t1; exact t1, (hsh2 t).trans t2, (cl_r (by rw [hF.2.2 243 _ rfl]; rfl)).trans t3⟩
      refine x_eqM (cl_cpr (C := RX1) (hF.2.2 243 _ rfl) (hF.2.2 6 _ rfl)) ?_
      have hF := LF_cp (a0 := 243) (a := 6) (m := 3) (by decide) hF
      refine x_aload_n dX0_image_101 rfl ?_
      refine q_getr 0 29 dX0_image_102 (C := RX0) (T := TX0) (N := 30) rfl (by decide) q427 (by have := hF.1; omega) (hF.2.2 0 _ rfl) rfl (hF.2.1 29 _ rfl) ?_
      refine x_ic0 dX0_image_105 ?_
      refine x_aload_n dX0_image_106 rfl ?_
      refine q_getr 0 15 dX0_image_107 (C := RX0) (T := TX0) (N := 30) rfl (by decide) q412 (by have := hF.1; omega) (hF.2.2 0 _ rfl) rfl (hF.2.1 15 _ rfl) ?_
      refine x_ic0 dX0_image_110 ?_
      refine x_bipush (v := nI 80) dX0_image_111 (by decide) ?_
      refine x_copy (ty := .int) dX0_image_113 q1062 (show 244 < fc_nx (fc_cp M2 243 6 3) by have := hF.1; omega) (show 30 < fc_nx (fc_cp M2 243 6 3) by have := hF.1; omega) (hF.2.2 244 _ rfl) (hF.2.2 30 _ rfl) (by decide) (by decide) (by decide) (by decide) (by omega) (Nat.le_of_ble_eq_true rfl) (fun k hk => Or.inl ⟨_, rfl, cl_i (by rw [hF.2.2 244 _ rfl]; rfl)⟩) ?_
      refine x_eqM (cl_cpi (hF.2.2 244 _ rfl) (hF.2.2 30 _ rfl)) ?_
      refine x_ic1 dX0_image_116 ?_
      subst hM2
      subst hM1
      exact x_iret dX0_image_117 rfl rfl fc_re.of
    · exact absurd hx hc14
set_option maxHeartbeats 1000000 in
theorem d_imageN (hF : LF g M) (hπ : fc_ct M 0 27 = .null) {x : Int32} (hx : x = 0) : fc_CX g l yX0_image cX0_image 2 (some .boolean) 3 [.ref (fc_B g + 0), .int x] (cl M S U) (fc_re (nI 0) (cl M S U)) := by
  refine fc_enter (by decide) (Nat.le_of_ble_eq_true rfl) rfl ?_
  refine x_iload_n dX0_image_0 rfl ?_
  refine x_if_ne (tgt := 13) dX0_image_1 (by decide) (fun hc1 => ?_) (fun hc1 => ?_)
  · exact absurd hx hc1
  · refine x_aload_n dX0_image_4 rfl ?_
    refine q_getr 0 27 dX0_image_5 (C := RX0) (T := TX0) (N := 30) rfl (by decide) q425 (by have := hF.1; omega) (hF.2.2 0 _ rfl) rfl hπ ?_
    refine x_ifnonnullN dX0_image_8 ?_
    refine x_ic0 dX0_image_11 ?_
    exact x_iret dX0_image_12 rfl rfl fc_re.of
end T99ZY

set_option maxRecDepth 100000
section T99ZX
variable {g : fc_G} {l : Launch} {M : fc_M} {S : tT} {U : tU} {w : Nat → Int32} {π f nC n : Nat}
set_option maxHeartbeats 1000000 in
theorem m_zoneOf {n0 s0 : Nat} (hO : PC g M S π 32 f nC w) (hf8 : f ≤ 80) (hC0 : 0 < nC) (hWt : ∀ i, i < f → S 30 i = w (740 + i)) {a b : Nat} (hb : b < f) (hab : a ≤ b) : ∀ (k i : Nat) (v : Int32), i ≤ b + 1 → b + 1 < i + k → fc_X g l yX0_zoneOf cX0_zoneOf 5 (some .int) 1 n0 s0 (cR M S U 32 w) 5 [some (.ref (fc_B g + 0)), some (.int (nI a)), some (.int (nI b)), some (.int (v)), some (.int (nI i))] [] (fc_re (zoL w b k i v * (nI (2 * b) * w (10 + 20 * 0 + 7) + nI (b - a + 1) * w (10 + 20 * 0 + 8))) (cR M S U 32 w)) := by
  intro k
  induction k with
  | zero => intro i v h1 h2; omega
  | succ k ih =>
    intro i v h1 h2
    refine x_iload dX0_zoneOf_5 rfl ?_
    refine x_iload_n dX0_zoneOf_7 rfl ?_
    refine x_icmpN_gt (tgt := 27) dX0_zoneOf_8 (by decide) (by omega) (by omega) (fun hc8 => ?_) (fun hc8 => ?_)
    · refine x_iload_n dX0_zoneOf_27 rfl ?_
      refine x_ic2 dX0_zoneOf_28 ?_
      refine x_iload_n dX0_zoneOf_29 rfl ?_
      refine x_imulN dX0_zoneOf_30 ?_
      refine x_aload_n dX0_zoneOf_31 rfl ?_
      refine k_plan hO dX0_zoneOf_32 q410 ?_
      refine k_plA 4 1 hO rfl (by decide) dX0_zoneOf_35 q220 ?_
      refine x_ic0 dX0_zoneOf_38 ?_
      refine k_plL 1 7 rfl hO (by decide) dX0_zoneOf_39 (by omega) ?_
      refine x_imul dX0_zoneOf_40 ?_
      refine x_iload_n dX0_zoneOf_41 rfl ?_
      refine x_iload_n dX0_zoneOf_42 rfl ?_
      refine x_isubN dX0_zoneOf_43 (by omega) ?_
      refine x_ic1 dX0_zoneOf_44 ?_
      refine x_iaddN dX0_zoneOf_45 ?_
      refine x_aload_n dX0_zoneOf_46 rfl ?_
      refine k_plan hO dX0_zoneOf_47 q410 ?_
      refine k_plA 5 2 hO rfl (by decide) dX0_zoneOf_50 q223 ?_
      refine x_ic0 dX0_zoneOf_53 ?_
      refine k_plL 2 8 rfl hO (by decide) dX0_zoneOf_54 (by omega) ?_
      refine x_imul dX0_zoneOf_55 ?_
      refine x_iadd dX0_zoneOf_56 ?_
      refine x_imul dX0_zoneOf_57 ?_
      rw [zoL, if_neg (Nat.not_le.mpr hc8)]
      exact x_iret dX0_zoneOf_58 rfl rfl fc_re.of
    · refine x_iload_n dX0_zoneOf_11 rfl ?_
      refine x_aload_n dX0_zoneOf_12 rfl ?_
      refine k_Fref 15 hO.1 rfl (by decide) rfl dX0_zoneOf_13 q412 ?_
      refine x_iload dX0_zoneOf_16 rfl ?_
      refine k_ald (a := 30) dX0_zoneOf_18 (show 30 < fc_nx M by have := hO.1.1; omega) (hO.1.2.2 30 _ rfl) (by decide) (by omega) (by omega) ?_
      refine x_top (hWt _ (by omega)) ?_
      refine x_iadd dX0_zoneOf_19 ?_
      refine x_istore_n dX0_zoneOf_20 (by decide) rfl ?_
      refine x_iincN (n := 1) dX0_zoneOf_21 (by decide) rfl (by decide) rfl ?_
      refine x_goto (tgt := 5) dX0_zoneOf_24 (by decide) ?_
      rw [zoL, if_pos hc8]
      exact ih (i + 1) _ (by omega) (by omega)
set_option maxHeartbeats 1000000 in
theorem d_zoneOf (hO : PC g M S π 32 f nC w) (hf8 : f ≤ 80) (hC0 : 0 < nC) (hWt : ∀ i, i < f → S 30 i = w (740 + i)) {a b : Nat} (hb : b < f) (hab : a ≤ b) : fc_CX g l yX0_zoneOf cX0_zoneOf 5 (some .int) 1 [.ref (fc_B g + 0), .int (nI a), .int (nI b)] (cR M S U 32 w) (fc_re (zoQ w a b) (cR M S U 32 w)) := by
  refine fc_enter (by decide) (Nat.le_of_ble_eq_true rfl) rfl ?_
  refine x_ic0 dX0_zoneOf_0 ?_
  refine x_istore_n dX0_zoneOf_1 (by decide) rfl ?_
  refine x_iload_n dX0_zoneOf_2 rfl ?_
  refine x_istore dX0_zoneOf_3 (by decide) rfl ?_
  exact m_zoneOf hO hf8 hC0 hWt hb hab (b + 2 - a) a (nI 0) (by omega) (by omega)
/-- the class's memory of cuts -/
def zc (S : tT) (s : zS) : tT := fun a k => if a = 0 ∧ k = 26 then s.1 else if a = 241 then s.2.1 k else if a = 242 then s.2.2 k else S a k
theorem zc_o {s : zS} {a k : Nat} (h : ¬ (a = 0 ∧ k = 26)) (h1 : a ≠ 241) (h2 : a ≠ 242) : zc S s a k = S a k := by
  show (if _ then _ else _) = _
  rw [if_neg h, if_neg h1, if_neg h2]
theorem zc_l {s : zS} {v : Int32} : tu (zc S s) 0 26 v = zc S (v, s.2) := by
  funext a k
  by_cases h : a = 0 ∧ k = 26
  · simp [tu, zc, h]
  · simp [tu, zc, h]
theorem zc_c {s : zS} {i : Nat} {v : Int32} : tu (zc S s) 241 i v = zc S (s.1, up s.2.1 i v, s.2.2) := by
  funext a k
  by_cases h : a = 241
  · subst h
    simp [tu, zc, up]
  · simp [tu, zc, h]
theorem zc_self : zc S (S 0 26, S 241, S 242) = S := by
  funext a k
  by_cases h : a = 0 ∧ k = 26
  · obtain ⟨rfl, rfl⟩ := h
    simp [zc]
  · by_cases h2 : a = 241
    · subst h2
      simp [zc]
    · by_cases h3 : a = 242
      · subst h3
        simp [zc]
      · simp [zc, h, h2, h3]
theorem zc_cp {s : zS} : cpS (clr (zc S s) 32 w) 241 242 3 = clr (zc S (s.1, s.2.1, mixW 3 s.2.1 s.2.2)) 32 w := by
  funext a k
  show (if a = 242 ∧ k < 3 then clr (zc S s) 32 w 241 k else clr (zc S s) 32 w a k) = _
  by_cases h : a = 242
  · subst h
    rw [clr_o (Or.inr (by decide)), clr_o (Or.inr (by decide)), clr_o (Or.inr (by decide))]
    by_cases h2 : k < 3
    · rw [if_pos ⟨rfl, h2⟩]; exact (if_pos h2).symm
    · rw [if_neg (fun z => h2 z.2)]; exact (if_neg h2).symm
  · rw [if_neg (fun z => h z.1)]
    have e : ∀ j, zc S s a j = zc S (s.1, s.2.1, mixW 3 s.2.1 s.2.2) a j := fun j => by simp [zc, h]
    show (if _ then _ else _) = (if _ then _ else _)
    rw [e]
theorem PC_zc {s : zS} (hO : PC g M S π 32 f nC w) (hp : plA π) : PC g M (zc S s) π 32 f nC w := PC_off hO (fun a k a1 a2 => zc_o (by rcases hp with e | e <;> omega) (by rcases hp with e | e <;> omega) (by rcases hp with e | e <;> omega))
def cuR (w : Nat → Int32) (F : Nat) : Nat → Nat → Nat → Int32 → zS → zS
  | 0, _, fr, sum, s => if s.1 = -1 ∨ sum + zoQ w fr (F - 1) < s.1 then (sum + zoQ w fr (F - 1), s.2.1, mixW 3 s.2.1 s.2.2) else s
  | j + 1, i, fr, sum, s => tcL (fun c s => if s.1 = -1 ∨ sum + zoQ w fr (c - 1) < s.1 then cuR w F j (i + 1) c (sum + zoQ w fr (c - 1)) (s.1, up s.2.1 i (nI c), s.2.2) else (s.1, up s.2.1 i (nI c), s.2.2)) (F - j) (F - fr) (fr + 1) s
theorem kG_X0_X0_zoneOf : GoodIn lw_all (wsV RX0 510 RX0 yX0_zoneOf (ws_ yX0_zoneOf cX0_zoneOf 5 (some .int))) := lw_V q1112 q1114 qs49 q118 q1115
theorem kP_X0_zoneOf : kPar yX0_zoneOf 2 := by decide +kernel
set_option maxHeartbeats 1000000 in
theorem d_cuts0 (hO0 : PC g M S π 32 f nC w) (hp : plA π) (hf8 : f ≤ 80) (hC0 : 0 < nC) (hWt0 : ∀ i, i < f → S 30 i = w (740 + i)) {kk : Nat} (hk : kk ≤ 3) {fr : Nat} (hfr : fr < f) {sum : Int32} {s : zS} (hfi : (kk = 0 ∧ fr = 1) ∨ (0 < kk ∧ s.2.1 (kk - 1) = nI fr)) : fc_CX g l yX0_cutsOn cX0_cutsOn 7 (none) 3 [.ref (fc_B g + 0), .int (nI kk), .int (nI kk), .int sum] (cR M (zc S s) U 32 w) (fc_rn (cR M (zc S (cuR w f 0 kk fr sum s)) U 32 w)) := by
  refine fc_enter (by decide) (Nat.le_of_ble_eq_true rfl) rfl ?_
  have hO := PC_zc (s := s) hO0 hp
  have hWt : ∀ i, i < f → zc S s 30 i = w (740 + i) := fun i hi => (zc_o (by omega) (by omega) (by omega)).trans (hWt0 i hi)
  refine x_iload_n dX0_cutsOn_0 rfl ?_
  refine x_ifN_ne (tgt := 8) dX0_cutsOn_1 (by decide) (by omega) (fun hc1 => ?_) (fun hc1 => ?_)
  · refine x_aload_n dX0_cutsOn_8 rfl ?_
    refine k_Fref 24 hO.1 rfl (by decide) rfl dX0_cutsOn_9 q422 ?_
    refine x_iload_n dX0_cutsOn_12 rfl ?_
    refine x_ic1 dX0_cutsOn_13 ?_
    refine x_isubN dX0_cutsOn_14 (by omega) ?_
    refine k_ald (a := 241) dX0_cutsOn_15 (show 241 < fc_nx M by have := hO.1.1; omega) (hO.1.2.2 241 _ rfl) (by decide) (by omega) (by omega) ?_
    refine x_top ((rfl : zc S s 241 _ = _).trans (hfi.resolve_left (fun z => by omega)).2) ?_
    refine x_istore dX0_cutsOn_16 (by decide) rfl ?_
    refine x_iload_n dX0_cutsOn_18 rfl ?_
    refine x_iload_n dX0_cutsOn_19 rfl ?_
    refine x_icmpN_ne (tgt := 81) dX0_cutsOn_20 (by decide) (by omega) (by omega) (fun hc20 => ?_) (fun hc20 => ?_)
    · exact absurd rfl hc20
    · refine x_iload_n dX0_cutsOn_23 rfl ?_
      refine x_aload_n dX0_cutsOn_24 rfl ?_
      refine x_iload dX0_cutsOn_25 rfl ?_
      refine x_aload_n dX0_cutsOn_27 rfl ?_
      refine k_plan hO dX0_cutsOn_28 q410 ?_
      refine k_plF 0 (nI f) hO (Or.inl ⟨rfl, rfl⟩) dX0_cutsOn_31 q211 ?_
      refine x_ic1 dX0_cutsOn_34 ?_
      refine x_isubN dX0_cutsOn_35 (by omega) ?_
      refine k_V2iF hO.1 dX0_cutsOn_36 kG_X0_X0_zoneOf kP_X0_zoneOf rfl (by omega) (by decide) (Nat.le_of_ble_eq_true rfl) (d_zoneOf hO hf8 hC0 hWt (by omega) (by omega)) ?_
      refine x_iadd dX0_cutsOn_39 ?_
      refine x_istore dX0_cutsOn_40 (by decide) rfl ?_
      refine x_aload_n dX0_cutsOn_42 rfl ?_
      refine q_geti 0 26 dX0_cutsOn_43 (C := RX0) (T := TX0) (N := 30) rfl (by decide) q424 (show 0 < fc_nx M by have := hO.1.1; omega) (hO.1.2.2 0 _ rfl) rfl (clr_o (by omega)) ?_
      refine x_top (show zc S s 0 26 = s.1 from rfl) ?_
      refine x_icm1 dX0_cutsOn_46 ?_
      refine x_icmp_eq (tgt := 60) dX0_cutsOn_47 (by decide) (fun hc47 => ?_) (fun hc47 => ?_)
      · refine x_aload_n dX0_cutsOn_60 rfl ?_
        refine x_iload dX0_cutsOn_61 rfl ?_
        refine q_puti 0 26 dX0_cutsOn_63 (C := RX0) (T := TX0) (N := 30) rfl (by decide) q424 rfl rfl rfl (show 0 < fc_nx M by have := hO.1.1; omega) (hO.1.2.2 0 _ rfl) rfl ?_
        rw [clr_uo (by omega)]
        rw [zc_l]
        refine x_aload_n dX0_cutsOn_66 rfl ?_
        refine k_Fref 24 hO.1 rfl (by decide) rfl dX0_cutsOn_67 q422 ?_
        refine x_ic0 dX0_cutsOn_70 ?_
        refine x_aload_n dX0_cutsOn_71 rfl ?_
        refine k_Fref 25 hO.1 rfl (by decide) rfl dX0_cutsOn_72 q423 ?_
        refine x_ic0 dX0_cutsOn_75 ?_
        refine x_ic3 dX0_cutsOn_76 ?_
        refine x_copy (ty := .int) dX0_cutsOn_77 q1062 (show 241 < fc_nx M by have := hO.1.1; omega) (show 242 < fc_nx M by have := hO.1.1; omega) (hO.1.2.2 241 _ rfl) (hO.1.2.2 242 _ rfl) (by decide) (by decide) (by decide) (by decide) (by omega) (Nat.le_of_ble_eq_true rfl) (fun k hk => Or.inl ⟨_, rfl, cl_i (by rw [hO.1.2.2 241 _ rfl]; rfl)⟩) ?_
        refine x_eqM (cl_cpi (hO.1.2.2 241 _ rfl) (hO.1.2.2 242 _ rfl)) ?_
        rw [zc_cp]
        rw [cuR, if_pos (Or.inl hc47)]
        exact x_vret dX0_cutsOn_80 rfl fc_rn.of
      · refine x_iload dX0_cutsOn_50 rfl ?_
        refine x_aload_n dX0_cutsOn_52 rfl ?_
        refine q_geti 0 26 dX0_cutsOn_53 (C := RX0) (T := TX0) (N := 30) rfl (by decide) q424 (show 0 < fc_nx M by have := hO.1.1; omega) (hO.1.2.2 0 _ rfl) rfl (clr_o (by omega)) ?_
        refine x_top (show zc S s 0 26 = s.1 from rfl) ?_
        refine x_icmp_lt (tgt := 60) dX0_cutsOn_56 (by decide) (fun hc56 => ?_) (fun hc56 => ?_)
        · refine x_aload_n dX0_cutsOn_60 rfl ?_
          refine x_iload dX0_cutsOn_61 rfl ?_
          refine q_puti 0 26 dX0_cutsOn_63 (C := RX0) (T := TX0) (N := 30) rfl (by decide) q424 rfl rfl rfl (show 0 < fc_nx M by have := hO.1.1; omega) (hO.1.2.2 0 _ rfl) rfl ?_
          rw [clr_uo (by omega)]
          rw [zc_l]
          refine x_aload_n dX0_cutsOn_66 rfl ?_
          refine k_Fref 24 hO.1 rfl (by decide) rfl dX0_cutsOn_67 q422 ?_
          refine x_ic0 dX0_cutsOn_70 ?_
          refine x_aload_n dX0_cutsOn_71 rfl ?_
          refine k_Fref 25 hO.1 rfl (by decide) rfl dX0_cutsOn_72 q423 ?_
          refine x_ic0 dX0_cutsOn_75 ?_
          refine x_ic3 dX0_cutsOn_76 ?_
          refine x_copy (ty := .int) dX0_cutsOn_77 q1062 (show 241 < fc_nx M by have := hO.1.1; omega) (show 242 < fc_nx M by have := hO.1.1; omega) (hO.1.2.2 241 _ rfl) (hO.1.2.2 242 _ rfl) (by decide) (by decide) (by decide) (by decide) (by omega) (Nat.le_of_ble_eq_true rfl) (fun k hk => Or.inl ⟨_, rfl, cl_i (by rw [hO.1.2.2 241 _ rfl]; rfl)⟩) ?_
          refine x_eqM (cl_cpi (hO.1.2.2 241 _ rfl) (hO.1.2.2 242 _ rfl)) ?_
          rw [zc_cp]
          rw [cuR, if_pos (Or.inr hc56)]
          exact x_vret dX0_cutsOn_80 rfl fc_rn.of
        · rw [cuR, if_neg (fun z => z.elim hc47 hc56)]
          exact x_vret dX0_cutsOn_59 rfl fc_rn.of
  · refine x_ic1 dX0_cutsOn_4 ?_
    obtain rfl : fr = 1 := by omega
    refine x_goto (tgt := 16) dX0_cutsOn_5 (by decide) ?_
    refine x_istore dX0_cutsOn_16 (by decide) rfl ?_
    refine x_iload_n dX0_cutsOn_18 rfl ?_
    refine x_iload_n dX0_cutsOn_19 rfl ?_
    refine x_icmpN_ne (tgt := 81) dX0_cutsOn_20 (by decide) (by omega) (by omega) (fun hc20 => ?_) (fun hc20 => ?_)
    · exact absurd rfl hc20
    · refine x_iload_n dX0_cutsOn_23 rfl ?_
      refine x_aload_n dX0_cutsOn_24 rfl ?_
      refine x_iload dX0_cutsOn_25 rfl ?_
      refine x_aload_n dX0_cutsOn_27 rfl ?_
      refine k_plan hO dX0_cutsOn_28 q410 ?_
      refine k_plF 0 (nI f) hO (Or.inl ⟨rfl, rfl⟩) dX0_cutsOn_31 q211 ?_
      refine x_ic1 dX0_cutsOn_34 ?_
      refine x_isubN dX0_cutsOn_35 (by omega) ?_
      refine k_V2iF hO.1 dX0_cutsOn_36 kG_X0_X0_zoneOf kP_X0_zoneOf rfl (by omega) (by decide) (Nat.le_of_ble_eq_true rfl) (d_zoneOf hO hf8 hC0 hWt (by omega) (by omega)) ?_
      refine x_iadd dX0_cutsOn_39 ?_
      refine x_istore dX0_cutsOn_40 (by decide) rfl ?_
      refine x_aload_n dX0_cutsOn_42 rfl ?_
      refine q_geti 0 26 dX0_cutsOn_43 (C := RX0) (T := TX0) (N := 30) rfl (by decide) q424 (show 0 < fc_nx M by have := hO.1.1; omega) (hO.1.2.2 0 _ rfl) rfl (clr_o (by omega)) ?_
      refine x_top (show zc S s 0 26 = s.1 from rfl) ?_
      refine x_icm1 dX0_cutsOn_46 ?_
      refine x_icmp_eq (tgt := 60) dX0_cutsOn_47 (by decide) (fun hc47 => ?_) (fun hc47 => ?_)
      · refine x_aload_n dX0_cutsOn_60 rfl ?_
        refine x_iload dX0_cutsOn_61 rfl ?_
        refine q_puti 0 26 dX0_cutsOn_63 (C := RX0) (T := TX0) (N := 30) rfl (by decide) q424 rfl rfl rfl (show 0 < fc_nx M by have := hO.1.1; omega) (hO.1.2.2 0 _ rfl) rfl ?_
        rw [clr_uo (by omega)]
        rw [zc_l]
        refine x_aload_n dX0_cutsOn_66 rfl ?_
        refine k_Fref 24 hO.1 rfl (by decide) rfl dX0_cutsOn_67 q422 ?_
        refine x_ic0 dX0_cutsOn_70 ?_
        refine x_aload_n dX0_cutsOn_71 rfl ?_
        refine k_Fref 25 hO.1 rfl (by decide) rfl dX0_cutsOn_72 q423 ?_
        refine x_ic0 dX0_cutsOn_75 ?_
        refine x_ic3 dX0_cutsOn_76 ?_
        refine x_copy (ty := .int) dX0_cutsOn_77 q1062 (show 241 < fc_nx M by have := hO.1.1; omega) (show 242 < fc_nx M by have := hO.1.1; omega) (hO.1.2.2 241 _ rfl) (hO.1.2.2 242 _ rfl) (by decide) (by decide) (by decide) (by decide) (by omega) (Nat.le_of_ble_eq_true rfl) (fun k hk => Or.inl ⟨_, rfl, cl_i (by rw [hO.1.2.2 241 _ rfl]; rfl)⟩) ?_
        refine x_eqM (cl_cpi (hO.1.2.2 241 _ rfl) (hO.1.2.2 242 _ rfl)) ?_
        rw [zc_cp]
        rw [cuR, if_pos (Or.inl hc47)]
        exact x_vret dX0_cutsOn_80 rfl fc_rn.of
      · refine x_iload dX0_cutsOn_50 rfl ?_
        refine x_aload_n dX0_cutsOn_52 rfl ?_
        refine q_geti 0 26 dX0_cutsOn_53 (C := RX0) (T := TX0) (N := 30) rfl (by decide) q424 (show 0 < fc_nx M by have := hO.1.1; omega) (hO.1.2.2 0 _ rfl) rfl (clr_o (by omega)) ?_
        refine x_top (show zc S s 0 26 = s.1 from rfl) ?_
        refine x_icmp_lt (tgt := 60) dX0_cutsOn_56 (by decide) (fun hc56 => ?_) (fun hc56 => ?_)
        · refine x_aload_n dX0_cutsOn_60 rfl ?_
          refine x_iload dX0_cutsOn_61 rfl ?_
          refine q_puti 0 26 dX0_cutsOn_63 (C := RX0) (T := TX0) (N := 30) rfl (by decide) q424 rfl rfl rfl (show 0 < fc_nx M by have := hO.1.1; omega) (hO.1.2.2 0 _ rfl) rfl ?_
          rw [clr_uo (by omega)]
          rw [zc_l]
          refine x_aload_n dX0_cutsOn_66 rfl ?_
          refine k_Fref 24 hO.1 rfl (by decide) rfl dX0_cutsOn_67 q422 ?_
          refine x_ic0 dX0_cutsOn_70 ?_
          refine x_aload_n dX0_cutsOn_71 rfl ?_
          refine k_Fref 25 hO.1 rfl (by decide) rfl dX0_cutsOn_72 q423 ?_
          refine x_ic0 dX0_cutsOn_75 ?_
          refine x_ic3 dX0_cutsOn_76 ?_
          refine x_copy (ty := .int) dX0_cutsOn_77 q1062 (show 241 < fc_nx M by have := hO.1.1; omega) (show 242 < fc_nx M by have := hO.1.1; omega) (hO.1.2.2 241 _ rfl) (hO.1.2.2 242 _ rfl) (by decide) (by decide) (by decide) (by decide) (by omega) (Nat.le_of_ble_eq_true rfl) (fun k hk => Or.inl ⟨_, rfl, cl_i (by rw [hO.1.2.2 241 _ rfl]; rfl)⟩) ?_
          refine x_eqM (cl_cpi (hO.1.2.2 241 _ rfl) (hO.1.2.2 242 _ rfl)) ?_
          rw [zc_cp]
          rw [cuR, if_pos (Or.inr hc56)]
          exact x_vret dX0_cutsOn_80 rfl fc_rn.of
        · rw [cuR, if_neg (fun z => z.elim hc47 hc56)]
          exact x_vret dX0_cutsOn_59 rfl fc_rn.of
theorem kG_X0_X0_cutsOn : GoodIn lw_all (wsV RX0 516 RX0 yX0_cutsOn (ws_ yX0_cutsOn cX0_cutsOn 7 (none))) := lw_V q1108 q1110 qs48 q118 q1111
theorem kP_X0_cutsOn : kPar yX0_cutsOn 3 := by decide +kernel
set_option maxHeartbeats 1000000 in
theorem m_cuts87 {n0 s0 : Nat} (hO0 : PC g M S π 32 f nC w) (hp : plA π) (hf8 : f ≤ 80) (hC0 : 0 < nC) (hWt0 : ∀ i, i < f → S 30 i = w (740 + i)) {kk : Nat} (hk : kk ≤ 3) {fr i j : Nat} (hik : i + (j + 1) = kk) (hjf : fr + j < f) (hi : ∀ c sum s, fr < c → c + j < f → s.2.1 i = nI c → fc_CX g l yX0_cutsOn cX0_cutsOn 7 none (j + 3) [.ref (fc_B g + 0), .int (nI (i + 1)), .int (nI kk), .int sum] (cR M (zc S s) U 32 w) (fc_rn (cR M (zc S (cuR w f j (i + 1) c sum s)) U 32 w))) {sum : Int32} : ∀ (k c : Nat) (s : zS) {o6 : Option Value}, fr < c → c ≤ f - j → f < c + k → fc_X g l yX0_cutsOn cX0_cutsOn 7 (none) (j + 4) n0 s0 (cR M (zc S s) U 32 w) 87 [some (.ref (fc_B g + 0)), some (.int (nI i)), some (.int (nI kk)), some (.int sum), some (.int (nI fr)), some (.int (nI c)), o6] [] (fc_rn (cR M (zc S (tcL (fun c s => if s.1 = -1 ∨ sum + zoQ w fr (c - 1) < s.1 then cuR w f j (i + 1) c (sum + zoQ w fr (c - 1)) (s.1, up s.2.1 i (nI c), s.2.2) else (s.1, up s.2.1 i (nI c), s.2.2)) (f - j) k c s)) U 32 w)) := by
  intro k
  induction k with
  | zero => intro c s o6 h3 h1 h2; omega
  | succ k ih =>
    intro c s o6 h3 h1 h2
    have hO := PC_zc (s := s) hO0 hp
    have hWt : ∀ i, i < f → zc S s 30 i = w (740 + i) := fun i hi => (zc_o (by omega) (by omega) (by omega)).trans (hWt0 i hi)
    have ekj : kk - 1 - i = j := by omega
    refine x_iload dX0_cutsOn_87 rfl ?_
    refine x_aload_n dX0_cutsOn_89 rfl ?_
    refine k_plan hO dX0_cutsOn_90 q410 ?_
    refine k_plF 0 (nI f) hO (Or.inl ⟨rfl, rfl⟩) dX0_cutsOn_93 q211 ?_
    refine x_iload_n dX0_cutsOn_96 rfl ?_
    refine x_ic1 dX0_cutsOn_97 ?_
    refine x_isubN dX0_cutsOn_98 (by omega) ?_
    refine x_iload_n dX0_cutsOn_99 rfl ?_
    refine x_isubN dX0_cutsOn_100 (by omega) ?_
    rw [ekj]
    refine x_isubN dX0_cutsOn_101 (by omega) ?_
    refine x_icmpN_ge (tgt := 160) dX0_cutsOn_102 (by decide) (by omega) (by omega) (fun hc102 => ?_) (fun hc102 => ?_)
    · rw [tcL, if_neg (Nat.not_lt.mpr hc102)]
      exact x_vret dX0_cutsOn_160 rfl fc_rn.of
    · refine x_aload_n dX0_cutsOn_105 rfl ?_
      refine k_Fref 24 hO.1 rfl (by decide) rfl dX0_cutsOn_106 q422 ?_
      refine x_iload_n dX0_cutsOn_109 rfl ?_
      refine x_iload dX0_cutsOn_110 rfl ?_
      refine k_ast (a := 241) dX0_cutsOn_112 (show 241 < fc_nx M by have := hO.1.1; omega) (hO.1.2.2 241 _ rfl) (by decide) (by omega) (by omega) ?_
      rw [zc_c]
      have hO := PC_zc (s := (s.1, up s.2.1 i (nI c), s.2.2)) hO0 hp
      have hWt : ∀ i9, i9 < f → zc S (s.1, up s.2.1 i (nI c), s.2.2) 30 i9 = w (740 + i9) := fun i hi => (zc_o (by omega) (by omega) (by omega)).trans (hWt0 i hi)
      refine x_iload_n dX0_cutsOn_113 rfl ?_
      refine x_aload_n dX0_cutsOn_114 rfl ?_
      refine x_iload dX0_cutsOn_115 rfl ?_
      refine x_iload dX0_cutsOn_117 rfl ?_
      refine x_ic1 dX0_cutsOn_119 ?_
      refine x_isubN dX0_cutsOn_120 (by omega) ?_
      refine k_V2iF hO.1 dX0_cutsOn_121 kG_X0_X0_zoneOf kP_X0_zoneOf rfl (by omega) (by decide) (Nat.le_of_ble_eq_true rfl) (d_zoneOf hO hf8 hC0 hWt (by omega) (by omega)) ?_
      refine x_iadd dX0_cutsOn_124 ?_
      refine x_istore dX0_cutsOn_125 (by decide) rfl ?_
      refine x_aload_n dX0_cutsOn_127 rfl ?_
      refine q_geti 0 26 dX0_cutsOn_128 (C := RX0) (T := TX0) (N := 30) rfl (by decide) q424 (show 0 < fc_nx M by have := hO.1.1; omega) (hO.1.2.2 0 _ rfl) rfl (clr_o (by omega)) ?_
      refine x_top (show zc S (s.1, up s.2.1 i (nI c), s.2.2) 0 26 = s.1 from rfl) ?_
      refine x_icm1 dX0_cutsOn_131 ?_
      refine x_icmp_eq (tgt := 144) dX0_cutsOn_132 (by decide) (fun hc132 => ?_) (fun hc132 => ?_)
      · refine x_aload_n dX0_cutsOn_144 rfl ?_
        refine x_iload_n dX0_cutsOn_145 rfl ?_
        refine x_ic1 dX0_cutsOn_146 ?_
        refine x_iaddN dX0_cutsOn_147 ?_
        refine x_iload_n dX0_cutsOn_148 rfl ?_
        refine x_iload dX0_cutsOn_149 rfl ?_
        refine k_V3vF hO.1 dX0_cutsOn_151 kG_X0_X0_cutsOn kP_X0_cutsOn rfl (by omega) (by decide) (Nat.le_of_ble_eq_true rfl) (hi c _ _ (by omega) (by omega) up_s) ?_
        refine x_iincN (n := 1) dX0_cutsOn_154 (by decide) rfl (by decide) rfl ?_
        refine x_goto (tgt := 87) dX0_cutsOn_157 (by decide) ?_
        rw [tcL, if_pos hc102, if_pos (Or.inl hc132)]
        exact ih (c + 1) _ (by omega) (by omega) (by omega)
      · refine x_iload dX0_cutsOn_135 rfl ?_
        refine x_aload_n dX0_cutsOn_137 rfl ?_
        refine q_geti 0 26 dX0_cutsOn_138 (C := RX0) (T := TX0) (N := 30) rfl (by decide) q424 (show 0 < fc_nx M by have := hO.1.1; omega) (hO.1.2.2 0 _ rfl) rfl (clr_o (by omega)) ?_
        refine x_top (show zc S (s.1, up s.2.1 i (nI c), s.2.2) 0 26 = s.1 from rfl) ?_
        refine x_icmp_ge (tgt := 154) dX0_cutsOn_141 (by decide) (fun hc141 => ?_) (fun hc141 => ?_)
        · refine x_iincN (n := 1) dX0_cutsOn_154 (by decide) rfl (by decide) rfl ?_
          refine x_goto (tgt := 87) dX0_cutsOn_157 (by decide) ?_
          rw [tcL, if_pos hc102, if_neg (fun z => z.elim hc132 (Int32.not_lt.mpr hc141))]
          exact ih (c + 1) _ (by omega) (by omega) (by omega)
        · refine x_aload_n dX0_cutsOn_144 rfl ?_
          refine x_iload_n dX0_cutsOn_145 rfl ?_
          refine x_ic1 dX0_cutsOn_146 ?_
          refine x_iaddN dX0_cutsOn_147 ?_
          refine x_iload_n dX0_cutsOn_148 rfl ?_
          refine x_iload dX0_cutsOn_149 rfl ?_
          refine k_V3vF hO.1 dX0_cutsOn_151 kG_X0_X0_cutsOn kP_X0_cutsOn rfl (by omega) (by decide) (Nat.le_of_ble_eq_true rfl) (hi c _ _ (by omega) (by omega) up_s) ?_
          refine x_iincN (n := 1) dX0_cutsOn_154 (by decide) rfl (by decide) rfl ?_
          refine x_goto (tgt := 87) dX0_cutsOn_157 (by decide) ?_
          rw [tcL, if_pos hc102, if_pos (Or.inr (Int32.not_le.mp hc141))]
          exact ih (c + 1) _ (by omega) (by omega) (by omega)
set_option maxHeartbeats 1000000 in
theorem d_cutsS (hO0 : PC g M S π 32 f nC w) (hp : plA π) (hf8 : f ≤ 80) (hC0 : 0 < nC) (hWt0 : ∀ i, i < f → S 30 i = w (740 + i)) {kk : Nat} (hk : kk ≤ 3) {fr : Nat} (hfr : fr < f) {sum : Int32} {s : zS} {i : Nat} (hfi : (i = 0 ∧ fr = 1) ∨ (0 < i ∧ s.2.1 (i - 1) = nI fr)) {j : Nat} (hik : i + (j + 1) = kk) (hjf : fr + j < f) (hi : ∀ c sum s, fr < c → c + j < f → s.2.1 i = nI c → fc_CX g l yX0_cutsOn cX0_cutsOn 7 none (j + 3) [.ref (fc_B g + 0), .int (nI (i + 1)), .int (nI kk), .int sum] (cR M (zc S s) U 32 w) (fc_rn (cR M (zc S (cuR w f j (i + 1) c sum s)) U 32 w))) : fc_CX g l yX0_cutsOn cX0_cutsOn 7 (none) (j + 4) [.ref (fc_B g + 0), .int (nI i), .int (nI kk), .int sum] (cR M (zc S s) U 32 w) (fc_rn (cR M (zc S (cuR w f (j + 1) i fr sum s)) U 32 w)) := by
  refine fc_enter (by decide) (Nat.le_of_ble_eq_true rfl) rfl ?_
  have hO := PC_zc (s := s) hO0 hp
  have hWt : ∀ i, i < f → zc S s 30 i = w (740 + i) := fun i hi => (zc_o (by omega) (by omega) (by omega)).trans (hWt0 i hi)
  refine x_iload_n dX0_cutsOn_0 rfl ?_
  refine x_ifN_ne (tgt := 8) dX0_cutsOn_1 (by decide) (by omega) (fun hc1 => ?_) (fun hc1 => ?_)
  · refine x_aload_n dX0_cutsOn_8 rfl ?_
    refine k_Fref 24 hO.1 rfl (by decide) rfl dX0_cutsOn_9 q422 ?_
    refine x_iload_n dX0_cutsOn_12 rfl ?_
    refine x_ic1 dX0_cutsOn_13 ?_
    refine x_isubN dX0_cutsOn_14 (by omega) ?_
    refine k_ald (a := 241) dX0_cutsOn_15 (show 241 < fc_nx M by have := hO.1.1; omega) (hO.1.2.2 241 _ rfl) (by decide) (by omega) (by omega) ?_
    refine x_top ((rfl : zc S s 241 _ = _).trans (hfi.resolve_left (fun z => by omega)).2) ?_
    refine x_istore dX0_cutsOn_16 (by decide) rfl ?_
    refine x_iload_n dX0_cutsOn_18 rfl ?_
    refine x_iload_n dX0_cutsOn_19 rfl ?_
    refine x_icmpN_ne (tgt := 81) dX0_cutsOn_20 (by decide) (by omega) (by omega) (fun hc20 => ?_) (fun hc20 => ?_)
    · refine x_iload dX0_cutsOn_81 rfl ?_
      refine x_ic1 dX0_cutsOn_83 ?_
      refine x_iaddN dX0_cutsOn_84 ?_
      refine x_istore dX0_cutsOn_85 (by decide) rfl ?_
      rw [cuR]
      exact m_cuts87 hO0 hp hf8 hC0 hWt0 hk hik hjf hi (f - fr) (fr + 1) s (by omega) (by omega) (by omega)
    · omega
  · refine x_ic1 dX0_cutsOn_4 ?_
    obtain rfl : fr = 1 := by omega
    refine x_goto (tgt := 16) dX0_cutsOn_5 (by decide) ?_
    refine x_istore dX0_cutsOn_16 (by decide) rfl ?_
    refine x_iload_n dX0_cutsOn_18 rfl ?_
    refine x_iload_n dX0_cutsOn_19 rfl ?_
    refine x_icmpN_ne (tgt := 81) dX0_cutsOn_20 (by decide) (by omega) (by omega) (fun hc20 => ?_) (fun hc20 => ?_)
    · refine x_iload dX0_cutsOn_81 rfl ?_
      refine x_ic1 dX0_cutsOn_83 ?_
      refine x_iaddN dX0_cutsOn_84 ?_
      refine x_istore dX0_cutsOn_85 (by decide) rfl ?_
      rw [cuR]
      exact m_cuts87 hO0 hp hf8 hC0 hWt0 hk hik hjf hi (f - 1) (1 + 1) s (by omega) (by omega) (by omega)
    · omega
theorem d_cutsOn (hO0 : PC g M S π 32 f nC w) (hp : plA π) (hf8 : f ≤ 80) (hC0 : 0 < nC) (hWt0 : ∀ i, i < f → S 30 i = w (740 + i)) {kk : Nat} (hk : kk ≤ 3) : ∀ (j i fr : Nat) (sum : Int32) (s : zS), i + j = kk → fr + j < f + 0 → ((i = 0 ∧ fr = 1) ∨ (0 < i ∧ s.2.1 (i - 1) = nI fr)) → fc_CX g l yX0_cutsOn cX0_cutsOn 7 none (j + 3) [.ref (fc_B g + 0), .int (nI i), .int (nI kk), .int sum] (cR M (zc S s) U 32 w) (fc_rn (cR M (zc S (cuR w f j i fr sum s)) U 32 w))
  | 0, i, fr, sum, s, h, hfr, hi => by
    obtain rfl : i = kk := by omega
    exact d_cuts0 hO0 hp hf8 hC0 hWt0 hk (by omega) hi
  | j + 1, i, fr, sum, s, h, hfr, hi => d_cutsS hO0 hp hf8 hC0 hWt0 hk (by omega) hi h (by omega) (fun c sum s h1 h2 h3 => d_cutsOn hO0 hp hf8 hC0 hWt0 hk j (i + 1) c sum s (by omega) (by omega) (Or.inr ⟨by omega, by rw [Nat.add_sub_cancel]; exact h3⟩))
def znE (S : tT) (w : Nat → Int32) (f n : Nat) : zS := cuR w f n 0 1 (nI 0) (-1, S 241, S 242)
def znK (S : tT) (w : Nat → Int32) (f nC : Nat) (x1 x2 : Int32) : Int32 := if nI 1 ≤ x1 ∧ x1 ≤ nI 3 then (if f < x1.toNatClampNeg + 2 then -1 else (if nC = 0 then -1 else (if x2 = 0 ∨ (nI 10 ≤ x2 ∧ x2 ≤ nI (9 + x1.toNatClampNeg)) then znR x2 (znE S w f x1.toNatClampNeg) else -1))) else -1
def zn_i (M : fc_M) (S : tT) (U : tU) (w : Nat → Int32) (r : Int32) : Outcome → fc_M → Prop := fun o M2 => o = .returned (some (.int r)) ∧ ∃ s, M2 = cR M (zc S s) U 32 w
theorem zn_same {r : Int32} : zn_i M S U w r (.returned (some (.int r))) (cR M S U 32 w) := ⟨rfl, _, by rw [zc_self]⟩
set_option maxHeartbeats 1000000 in
theorem d_zones (hO : PC g M S π 32 f nC w) (hp : plA π) (hf8 : f ≤ 80) (hC4 : nC ≤ 4) (hWt : ∀ i, i < f → S 30 i = w (740 + i)) {x1 x2 : Int32} : fc_CX g l yX0_zones cX0_zones 3 (some .int) 7 [.ref (fc_B g + 0), .int x1, .int x2] (cR M S U 32 w) (zn_i M S U w (znK S w f nC x1 x2)) := by
  refine fc_enter (by decide) (Nat.le_of_ble_eq_true rfl) rfl ?_
  refine x_iload_n dX0_zones_0 rfl ?_
  refine x_ic1 dX0_zones_1 ?_
  refine x_ic3 dX0_zones_2 ?_
  refine k_S3i dX0_zones_3 kG_X0_X0_isIn kP_X0_isIn (by omega) (by decide) (Nat.le_of_ble_eq_true rfl) d_isIn ?_
  refine x_ifB_eq (tgt := 49) dX0_zones_6 (by decide) (fun hc6 => ?_) (fun hc6 => ?_)
  · refine x_icm1 dX0_zones_49 ?_
    have e : znK S w f nC x1 x2 = -1 := by rw [znK, if_neg hc6]
    rw [e]
    exact x_iret dX0_zones_50 rfl rfl zn_same
  · obtain ⟨n, hn1, hn, rfl⟩ := nI_between (by decide) hc6 (by decide)
    have hck : (nI n).toNatClampNeg = n := nI_clamp (by omega)
    · refine x_aload_n dX0_zones_9 rfl ?_
      refine k_plan hO dX0_zones_10 q410 ?_
      refine k_plF 0 (nI f) hO (Or.inl ⟨rfl, rfl⟩) dX0_zones_13 q211 ?_
      refine x_iload_n dX0_zones_16 rfl ?_
      refine x_ic2 dX0_zones_17 ?_
      refine x_iaddN dX0_zones_18 ?_
      refine x_icmpN_lt (tgt := 49) dX0_zones_19 (by decide) (by omega) (by omega) (fun hc19 => ?_) (fun hc19 => ?_)
      · refine x_icm1 dX0_zones_49 ?_
        have e : znK S w f nC (nI n) x2 = -1 := by rw [znK, if_pos hc6, hck, if_pos hc19]
        rw [e]
        exact x_iret dX0_zones_50 rfl rfl zn_same
      · refine x_aload_n dX0_zones_22 rfl ?_
        refine k_plan hO dX0_zones_23 q410 ?_
        refine k_plF 1 (nI nC) hO (Or.inr (Or.inl ⟨rfl, rfl⟩)) dX0_zones_26 q213 ?_
        refine x_ifN_eq (tgt := 49) dX0_zones_29 (by decide) (by omega) (fun hc29 => ?_) (fun hc29 => ?_)
        · refine x_icm1 dX0_zones_49 ?_
          have e : znK S w f nC (nI n) x2 = -1 := by rw [znK, if_pos hc6, hck, if_neg (by omega), if_pos hc29]
          rw [e]
          exact x_iret dX0_zones_50 rfl rfl zn_same
        · refine x_iload_n dX0_zones_32 rfl ?_
          refine x_if_eq (tgt := 51) dX0_zones_33 (by decide) (fun hc33 => ?_) (fun hc33 => ?_)
          · have hx2 : x2 = 0 ∨ (nI 10 ≤ x2 ∧ x2 ≤ nI (9 + n)) := (Or.inl hc33)
            have e : znK S w f nC (nI n) x2 = znR x2 (znE S w f n) := by rw [znK, if_pos hc6, hck, if_neg (by omega), if_neg (by omega), if_pos hx2]
            rw [e]
            refine x_eqM (congrArg (fun z => cR M z U 32 w) (zc_self (S := S)).symm) ?_
            generalize hs9 : (S 0 26, S 241, S 242) = s
            have hO0 := hO
            have hO := PC_zc (s := s) hO0 hp
            · refine x_aload_n dX0_zones_51 rfl ?_
              refine x_icm1 dX0_zones_52 ?_
              refine q_puti 0 26 dX0_zones_53 (C := RX0) (T := TX0) (N := 30) rfl (by decide) q424 rfl rfl rfl (show 0 < fc_nx M by have := hO.1.1; omega) (hO.1.2.2 0 _ rfl) rfl ?_
              rw [clr_uo (by omega)]
              rw [zc_l]
              refine x_aload_n dX0_zones_56 rfl ?_
              refine x_ic0 dX0_zones_57 ?_
              refine x_iload_n dX0_zones_58 rfl ?_
              refine x_ic0 dX0_zones_59 ?_
              rw [show s.2 = (S 241, S 242) by rw [← hs9]]
              refine k_V3vF hO.1 dX0_zones_60 kG_X0_X0_cutsOn kP_X0_cutsOn rfl (by omega) (by decide) (Nat.le_of_ble_eq_true rfl) (d_cutsOn hO0 hp hf8 (by omega) hWt (kk := n) (by omega) n 0 1 (nI 0) (-1, S 241, S 242) (by omega) (by omega) (Or.inl ⟨rfl, rfl⟩)) ?_
              rw [show cuR w f n 0 1 (nI 0) (-1, S 241, S 242) = znE S w f n from rfl]
              generalize znE S w f n = s
              have hO := PC_zc (s := s) hO0 hp
              refine x_iload_n dX0_zones_63 rfl ?_
              refine x_if_ne (tgt := 74) dX0_zones_64 (by decide) (fun hc64 => ?_) (fun hc64 => ?_)
              · obtain ⟨k, hk1, hk2, rfl⟩ := nI_between (by omega) (hx2.resolve_left hc64) (by decide)
                · refine x_aload_n dX0_zones_74 rfl ?_
                  refine k_Fref 25 hO.1 rfl (by decide) rfl dX0_zones_75 q423 ?_
                  refine x_iload_n dX0_zones_78 rfl ?_
                  refine x_bipush (v := nI 10) dX0_zones_79 (by decide) ?_
                  refine x_isubN dX0_zones_81 (by omega) ?_
                  refine k_ald (a := 242) dX0_zones_82 (show 242 < fc_nx M by have := hO.1.1; omega) (hO.1.2.2 242 _ rfl) (by decide) (by omega) (by omega) ?_
                  refine x_top ((rfl : zc S s 242 _ = _).trans (by rw [nI_clamp (by omega)] : s.2.2 (k - 10) = s.2.2 ((nI k).toNatClampNeg - 10))) ?_
                  rw [znR, if_neg hc64]
                  exact x_iret dX0_zones_83 rfl rfl ⟨rfl, _, rfl⟩
              · refine x_aload_n dX0_zones_67 rfl ?_
                refine q_geti 0 26 dX0_zones_68 (C := RX0) (T := TX0) (N := 30) rfl (by decide) q424 (show 0 < fc_nx M by have := hO.1.1; omega) (hO.1.2.2 0 _ rfl) rfl (clr_o (by omega)) ?_
                refine x_top (show zc S s 0 26 = s.1 from rfl) ?_
                refine x_goto (tgt := 83) dX0_zones_71 (by decide) ?_
                rw [znR, if_pos hc64]
                exact x_iret dX0_zones_83 rfl rfl ⟨rfl, _, rfl⟩
          · refine x_iload_n dX0_zones_36 rfl ?_
            refine x_bipush (v := nI 10) dX0_zones_37 (by decide) ?_
            refine x_bipush (v := nI 9) dX0_zones_39 (by decide) ?_
            refine x_iload_n dX0_zones_41 rfl ?_
            refine x_iaddN dX0_zones_42 ?_
            refine k_S3i dX0_zones_43 kG_X0_X0_isIn kP_X0_isIn (by omega) (by decide) (Nat.le_of_ble_eq_true rfl) d_isIn ?_
            refine x_ifB_ne (tgt := 51) dX0_zones_46 (by decide) (fun hc46 => ?_) (fun hc46 => ?_)
            · have hx2 : x2 = 0 ∨ (nI 10 ≤ x2 ∧ x2 ≤ nI (9 + n)) := (Or.inr hc46)
              have e : znK S w f nC (nI n) x2 = znR x2 (znE S w f n) := by rw [znK, if_pos hc6, hck, if_neg (by omega), if_neg (by omega), if_pos hx2]
              rw [e]
              refine x_eqM (congrArg (fun z => cR M z U 32 w) (zc_self (S := S)).symm) ?_
              generalize hs9 : (S 0 26, S 241, S 242) = s
              have hO0 := hO
              have hO := PC_zc (s := s) hO0 hp
              · refine x_aload_n dX0_zones_51 rfl ?_
                refine x_icm1 dX0_zones_52 ?_
                refine q_puti 0 26 dX0_zones_53 (C := RX0) (T := TX0) (N := 30) rfl (by decide) q424 rfl rfl rfl (show 0 < fc_nx M by have := hO.1.1; omega) (hO.1.2.2 0 _ rfl) rfl ?_
                rw [clr_uo (by omega)]
                rw [zc_l]
                refine x_aload_n dX0_zones_56 rfl ?_
                refine x_ic0 dX0_zones_57 ?_
                refine x_iload_n dX0_zones_58 rfl ?_
                refine x_ic0 dX0_zones_59 ?_
                rw [show s.2 = (S 241, S 242) by rw [← hs9]]
                refine k_V3vF hO.1 dX0_zones_60 kG_X0_X0_cutsOn kP_X0_cutsOn rfl (by omega) (by decide) (Nat.le_of_ble_eq_true rfl) (d_cutsOn hO0 hp hf8 (by omega) hWt (kk := n) (by omega) n 0 1 (nI 0) (-1, S 241, S 242) (by omega) (by omega) (Or.inl ⟨rfl, rfl⟩)) ?_
                rw [show cuR w f n 0 1 (nI 0) (-1, S 241, S 242) = znE S w f n from rfl]
                generalize znE S w f n = s
                have hO := PC_zc (s := s) hO0 hp
                refine x_iload_n dX0_zones_63 rfl ?_
                refine x_if_ne (tgt := 74) dX0_zones_64 (by decide) (fun hc64 => ?_) (fun hc64 => ?_)
                · obtain ⟨k, hk1, hk2, rfl⟩ := nI_between (by omega) (hx2.resolve_left hc64) (by decide)
                  · refine x_aload_n dX0_zones_74 rfl ?_
                    refine k_Fref 25 hO.1 rfl (by decide) rfl dX0_zones_75 q423 ?_
                    refine x_iload_n dX0_zones_78 rfl ?_
                    refine x_bipush (v := nI 10) dX0_zones_79 (by decide) ?_
                    refine x_isubN dX0_zones_81 (by omega) ?_
                    refine k_ald (a := 242) dX0_zones_82 (show 242 < fc_nx M by have := hO.1.1; omega) (hO.1.2.2 242 _ rfl) (by decide) (by omega) (by omega) ?_
                    refine x_top ((rfl : zc S s 242 _ = _).trans (by rw [nI_clamp (by omega)] : s.2.2 (k - 10) = s.2.2 ((nI k).toNatClampNeg - 10))) ?_
                    rw [znR, if_neg hc64]
                    exact x_iret dX0_zones_83 rfl rfl ⟨rfl, _, rfl⟩
                · refine x_aload_n dX0_zones_67 rfl ?_
                  refine q_geti 0 26 dX0_zones_68 (C := RX0) (T := TX0) (N := 30) rfl (by decide) q424 (show 0 < fc_nx M by have := hO.1.1; omega) (hO.1.2.2 0 _ rfl) rfl (clr_o (by omega)) ?_
                  refine x_top (show zc S s 0 26 = s.1 from rfl) ?_
                  refine x_goto (tgt := 83) dX0_zones_71 (by decide) ?_
                  rw [znR, if_pos hc64]
                  exact x_iret dX0_zones_83 rfl rfl ⟨rfl, _, rfl⟩
            · refine x_icm1 dX0_zones_49 ?_
              have e : znK S w f nC (nI n) x2 = -1 := by rw [znK, if_pos hc6, hck, if_neg (by omega), if_neg (by omega), if_neg (fun z => z.elim hc33 hc46)]
              rw [e]
              exact x_iret dX0_zones_50 rfl rfl zn_same
end T99ZX

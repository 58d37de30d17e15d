set_option maxRecDepth 100000
section T96
variable {g : fc_G} {l : Launch} {M : fc_M} {S : tT} {U : tU} {β : Nat} {w : Nat → Int32} {π f nC : Nat}
theorem nI_sub_toInt {a b : Nat} (ha : a < 2 ^ 30) (hb : b < 2 ^ 30) : (nI a - nI b).toInt = (a : Int) - (b : Int) := by
  rw [Int32.toInt_sub, nI_toInt (by omega), nI_toInt (by omega)]
  apply Int.bmod_eq_of_le <;> omega
theorem nI_sub_lt0 {a b : Nat} (ha : a < 2 ^ 30) (hb : b < 2 ^ 30) : nI a - nI b < 0 ↔ a < b := by
  rw [Int32.lt_iff_toInt_lt, nI_sub_toInt ha hb]
  have h4 : (0 : Int32).toInt = 0 := rfl
  omega
theorem nI_lt_sub {m a b : Nat} (hm : m < 2 ^ 30) (ha : a < 2 ^ 30) (hb : b < 2 ^ 30) : nI m < nI a - nI b ↔ b + m < a := by
  rw [Int32.lt_iff_toInt_lt, nI_sub_toInt ha hb, nI_toInt (by omega)]
  omega
theorem k_V3iL {y : MethodName} {cc : ByteArray} {nL : Nat} {ret : Option FieldType} {d n0 s0 : Nat} {M2 : fc_M} {pc : Nat} {L : List (Option Value)} {st : List Value} {Q : Outcome → fc_M → Prop} {y2 : MethodName} {c2 : ByteArray} {n2 d2 i : Nat} {r2 : Option FieldType} {a1 a2 a3 : Value} {r : Int32} (hO : PC g M S π β f nC w) (hd : decode cc pc = .ok (.invokevirtual i, 3)) (hG : GoodIn lw_all (wsV y.cls i y2.cls y2 (ws_ y2 c2 n2 r2))) (hpar : kPar y2 3) (hcl : y2.cls = RX2) (hdd : d2 + 1 ≤ d) (hn2 : n2 ≤ 45) (hrest : (st.map fun v => v.category).sum ≤ 8) (hC : fc_CX g l y2 c2 n2 r2 d2 [.ref (fc_B g + π), a1, a2, a3] (cR M S U β w) (fc_re r M2)) (kk : fc_X g l y cc nL ret d n0 s0 M2 (pc + 3) L (.int r :: st) Q) : fc_X g l y cc nL ret d n0 s0 (cR M S U β w) pc L (a3 :: a2 :: a1 :: .ref (fc_B g + π) :: st) Q :=
  x_V3i 2 hd hG hpar (T := TX2) (N := 9) (by rw [hcl]; rfl) (show π < fc_nx M by have := hO.2.2.2.1.1; omega) hO.2.2.2.1.2.1 hdd hn2 hrest (fc_re_i hC) (fun r3 M3 h => by obtain ⟨e1, e2⟩ := h; subst e1; subst e2; exact kk)
set_option maxHeartbeats 1000000 in
theorem d_serves (hO : PC g M S π β f nC w) {c a b : Nat} (hc : c < nC) (ha : a < f) (hb : b < f) : fc_CX g l yX2_serves cX2_serves 4 (some .boolean) 1 [.ref (fc_B g + π), .int (nI c), .int (nI a), .int (nI b)] (cR M S U β w) (fc_re (bI (w (100 + 80 * c + a) = nI 1 ∧ w (100 + 80 * c + b) = nI 1)) (cR M S U β w)) := by
  refine fc_enter (by decide) (Nat.le_of_ble_eq_true rfl) rfl ?_
  refine x_aload_n dX2_serves_0 rfl ?_
  refine k_plS hO dX2_serves_1 q230 ?_
  refine x_iload_n dX2_serves_4 rfl ?_
  refine k_plR hO dX2_serves_5 (by omega) ?_
  refine x_iload_n dX2_serves_6 rfl ?_
  refine k_plZ hO dX2_serves_7 (by omega) (by omega) ?_
  refine x_ifB_ne (tgt := 26) dX2_serves_8 (by decide) (fun hc8 => ?_) (fun hc8 => ?_)
  · refine x_ic0 dX2_serves_26 ?_
    exact x_iret dX2_serves_27 rfl (by rfl) (fc_re.of2 (bI_f (fun z => hc8 z.1)).symm rfl)
  · refine x_aload_n dX2_serves_11 rfl ?_
    refine k_plS hO dX2_serves_12 q230 ?_
    refine x_iload_n dX2_serves_15 rfl ?_
    refine k_plR hO dX2_serves_16 (by omega) ?_
    refine x_iload_n dX2_serves_17 rfl ?_
    refine k_plZ hO dX2_serves_18 (by omega) (by omega) ?_
    refine x_ifB_ne (tgt := 26) dX2_serves_19 (by decide) (fun hc19 => ?_) (fun hc19 => ?_)
    · refine x_ic0 dX2_serves_26 ?_
      exact x_iret dX2_serves_27 rfl (by rfl) (fc_re.of2 (bI_f (fun z => hc19 z.2)).symm rfl)
    · refine x_ic1 dX2_serves_22 ?_
      refine x_goto (tgt := 27) dX2_serves_23 (by decide) ?_
      exact x_iret dX2_serves_27 rfl (by rfl) (fc_re.of2 (bI_t ⟨Classical.not_not.mp hc8, Classical.not_not.mp hc19⟩).symm rfl)
def cmI (x z : Int32) : Int32 := if x < z then -1 else if x = z then nI 0 else nI 1
set_option maxHeartbeats 1000000 in
theorem d_compare {x z : Int32} : fc_CX g l yJ9_compare cJ9_compare 2 (some .int) 1 [.int x, .int z] (M) (fc_re (cmI x z) M) := by
  refine fc_enter (by decide) (Nat.le_of_ble_eq_true rfl) rfl ?_
  refine x_iload_n dJ9_compare_0 rfl ?_
  refine x_iload_n dJ9_compare_1 rfl ?_
  refine x_icmp_ge (tgt := 9) dJ9_compare_2 (by decide) (fun hc2 => ?_) (fun hc2 => ?_)
  · refine x_iload_n dJ9_compare_9 rfl ?_
    refine x_iload_n dJ9_compare_10 rfl ?_
    refine x_icmp_ne (tgt := 18) dJ9_compare_11 (by decide) (fun hc11 => ?_) (fun hc11 => ?_)
    · refine x_ic1 dJ9_compare_18 ?_
      exact x_iret dJ9_compare_19 rfl (by rfl) (fc_re.of2 (show _ = cmI x z from ((if_neg (Int32.not_lt.mpr hc2)).trans (if_neg hc11)).symm) rfl)
    · refine x_ic0 dJ9_compare_14 ?_
      refine x_goto (tgt := 19) dJ9_compare_15 (by decide) ?_
      exact x_iret dJ9_compare_19 rfl (by rfl) (fc_re.of2 (show _ = cmI x z from ((if_neg (Int32.not_lt.mpr hc2)).trans (if_pos hc11)).symm) rfl)
  · refine x_icm1 dJ9_compare_5 ?_
    refine x_goto (tgt := 19) dJ9_compare_6 (by decide) ?_
    exact x_iret dJ9_compare_19 rfl (by rfl) (fc_re.of2 (show _ = cmI x z from (if_pos (Int32.not_le.mp hc2)).symm) rfl)
def hmW (w : Nat → Int32) (c a : Nat) : Int32 := if w (10 + 20 * c + 5) = -1 then nI 0 else cmI (w (10 + 20 * c + 5)) (nI a)
def orH (o : Option Int32) (h : Int32) : Int32 := match o with
  | some r => r
  | none => h
def cnW (w : Nat → Int32) (c a f : Nat) (x z : Int64) (fh : Int32) : Int32 := if fh = -1 then orH (cwL x z a f (f + 1) 1) (hmW w c a) else wayW w fh.toNatClampNeg
theorem kG_X3_J9_compare : GoodIn lw_all (va_wsS RX3 177 yJ9_compare (ws_ yJ9_compare cJ9_compare 2 (some .int))) := lw_S q970 q971 q142 q972
theorem kP_J9_compare : kPar yJ9_compare 2 := by decide +kernel
theorem kG_X3_X3_isTarget : GoodIn lw_all (wsV RX3 173 RX3 yX3_isTarget (ws_ yX3_isTarget cX3_isTarget 2 (some .boolean))) := lw_V q966 q968 qs34 q121 q969
theorem kP_X3_isTarget : kPar yX3_isTarget 1 := by decide +kernel
set_option maxHeartbeats 1000000 in
theorem m_newWay {n0 s0 : Nat} (hL : LT g M β) (hO : PC g M S π β f nC w) {n : Nat} (hn : n ≤ 60) (hw : w 2 = nI n) {c a : Nat} (hc : c < 4) (ha : w (10 + 20 * c + 0) = nI a) (haf : a < f) : ∀ (k i : Nat) (fh : Int32), 0 < i → i ≤ f → f < i + k → fc_X g l yX3_newWay cX3_newWay 5 (some .int) 2 n0 s0 (cR M S U β w) 34 [some (.ref (fc_B g + β)), some (.int (nI c)), some (.int (nI a)), some (.int fh), some (.int (nI i))] [] (fc_re (orH (cwL (U β 9) (U β 10) a f k i) (hmW w c a)) (cR M S U β w)) := by
  intro k
  induction k with
  | zero => intro i fh h0 h1 h2; omega
  | succ k ih =>
    intro i fh h0 h1 h2
    have hf80 := hO.2.2.2.2.2.1.2.2.2.1
    refine x_iload dX3_newWay_34 rfl ?_
    refine x_aload_n dX3_newWay_36 rfl ?_
    refine k_this0 11 rfl hL dX3_newWay_37 q367 ?_
    refine k_planN hO dX3_newWay_40 q411 ?_
    refine k_plF 0 (nI f) hO (Or.inl ⟨rfl, rfl⟩) dX3_newWay_43 q210 ?_
    refine x_icmpN_ge (tgt := 105) dX3_newWay_46 (by decide) (by omega) (by omega) (fun hc46 => ?_) (fun hc46 => ?_)
    · refine x_aload_n dX3_newWay_105 rfl ?_
      refine k_cars 1 rfl hL dX3_newWay_106 q349 ?_
      refine x_iload_n dX3_newWay_109 rfl ?_
      refine k_cald hL dX3_newWay_110 (by omega) ?_
      refine k_cget 4 5 rfl hL dX3_newWay_111 (by decide) q321 (by omega) ?_
      refine x_icm1 dX3_newWay_114 ?_
      refine x_icmp_ne (tgt := 122) dX3_newWay_115 (by decide) (fun hc115 => ?_) (fun hc115 => ?_)
      · refine x_aload_n dX3_newWay_122 rfl ?_
        refine k_cars 1 rfl hL dX3_newWay_123 q349 ?_
        refine x_iload_n dX3_newWay_126 rfl ?_
        refine k_cald hL dX3_newWay_127 (by omega) ?_
        refine k_cget 4 5 rfl hL dX3_newWay_128 (by decide) q321 (by omega) ?_
        refine x_iload_n dX3_newWay_131 rfl ?_
        refine k_S2i dX3_newWay_132 kG_X3_J9_compare kP_J9_compare (by omega) (by decide) (Nat.le_of_ble_eq_true rfl) d_compare ?_
        rw [cwL, if_neg (Nat.not_lt.mpr hc46)]
        exact x_iret dX3_newWay_135 rfl (by rfl) (fc_re.of2 (show _ = hmW w c a from (if_neg hc115).symm) rfl)
      · refine x_ic0 dX3_newWay_118 ?_
        refine x_goto (tgt := 135) dX3_newWay_119 (by decide) ?_
        rw [cwL, if_neg (Nat.not_lt.mpr hc46)]
        exact x_iret dX3_newWay_135 rfl (by rfl) (fc_re.of2 (show _ = hmW w c a from (if_pos hc115).symm) rfl)
    · refine x_iload_n dX3_newWay_49 rfl ?_
      refine x_iload dX3_newWay_50 rfl ?_
      refine x_iaddN dX3_newWay_52 ?_
      refine x_aload_n dX3_newWay_53 rfl ?_
      refine k_this0 11 rfl hL dX3_newWay_54 q367 ?_
      refine k_planN hO dX3_newWay_57 q411 ?_
      refine k_plF 0 (nI f) hO (Or.inl ⟨rfl, rfl⟩) dX3_newWay_60 q210 ?_
      refine x_icmpN_ge (tgt := 79) dX3_newWay_63 (by decide) (by omega) (by omega) (fun hc63 => ?_) (fun hc63 => ?_)
      · refine x_iload_n dX3_newWay_79 rfl ?_
        refine x_iload dX3_newWay_80 rfl ?_
        refine x_isub dX3_newWay_82 ?_
        refine x_if_lt (tgt := 99) dX3_newWay_83 (by decide) (fun hc83 => ?_) (fun hc83 => ?_)
        · refine x_iincN (n := 1) dX3_newWay_99 (by decide) rfl (by decide) rfl ?_
          refine x_goto (tgt := 34) dX3_newWay_102 (by decide) ?_
          rw [cwL, if_pos hc46, if_neg (fun z => absurd z.1 (Nat.not_lt.mpr hc63)), if_neg (fun z => absurd ((nI_sub_lt0 (by omega) (by omega)).mp hc83) (Nat.not_lt.mpr z.1))]
          exact ih (i + 1) _ (by omega) (by omega) (by omega)
        · refine x_aload_n dX3_newWay_86 rfl ?_
          have hia : i ≤ a := Nat.le_of_not_lt (fun q => hc83 ((nI_sub_lt0 (by omega) (by omega)).mpr q))
          refine x_iload_n dX3_newWay_87 rfl ?_
          refine x_iload dX3_newWay_88 rfl ?_
          refine x_isubN dX3_newWay_90 (by omega) ?_
          refine k_V1iT hL dX3_newWay_91 kG_X3_X3_isTarget kP_X3_isTarget rfl (by omega) (by decide) (Nat.le_of_ble_eq_true rfl) (d_isTarget hL (by omega)) ?_
          refine x_ifB_eq (tgt := 99) dX3_newWay_94 (by decide) (fun hc94 => ?_) (fun hc94 => ?_)
          · refine x_iincN (n := 1) dX3_newWay_99 (by decide) rfl (by decide) rfl ?_
            refine x_goto (tgt := 34) dX3_newWay_102 (by decide) ?_
            rw [cwL, if_pos hc46, if_neg (fun z => absurd z.1 (Nat.not_lt.mpr hc63)), if_neg (fun z => hc94 z.2)]
            exact ih (i + 1) _ (by omega) (by omega) (by omega)
          · refine x_icm1 dX3_newWay_97 ?_
            rw [cwL, if_pos hc46, if_neg (fun z => absurd z.1 (Nat.not_lt.mpr hc63)), if_pos ⟨hia, hc94⟩]
            exact x_iret dX3_newWay_98 rfl (by rfl) fc_re.of
      · refine x_aload_n dX3_newWay_66 rfl ?_
        refine x_iload_n dX3_newWay_67 rfl ?_
        refine x_iload dX3_newWay_68 rfl ?_
        refine x_iaddN dX3_newWay_70 ?_
        refine k_V1iT hL dX3_newWay_71 kG_X3_X3_isTarget kP_X3_isTarget rfl (by omega) (by decide) (Nat.le_of_ble_eq_true rfl) (d_isTarget hL (by omega)) ?_
        refine x_ifB_eq (tgt := 79) dX3_newWay_74 (by decide) (fun hc74 => ?_) (fun hc74 => ?_)
        · refine x_iload_n dX3_newWay_79 rfl ?_
          refine x_iload dX3_newWay_80 rfl ?_
          refine x_isub dX3_newWay_82 ?_
          refine x_if_lt (tgt := 99) dX3_newWay_83 (by decide) (fun hc83 => ?_) (fun hc83 => ?_)
          · refine x_iincN (n := 1) dX3_newWay_99 (by decide) rfl (by decide) rfl ?_
            refine x_goto (tgt := 34) dX3_newWay_102 (by decide) ?_
            rw [cwL, if_pos hc46, if_neg (fun z => hc74 z.2), if_neg (fun z => absurd ((nI_sub_lt0 (by omega) (by omega)).mp hc83) (Nat.not_lt.mpr z.1))]
            exact ih (i + 1) _ (by omega) (by omega) (by omega)
          · refine x_aload_n dX3_newWay_86 rfl ?_
            have hia : i ≤ a := Nat.le_of_not_lt (fun q => hc83 ((nI_sub_lt0 (by omega) (by omega)).mpr q))
            refine x_iload_n dX3_newWay_87 rfl ?_
            refine x_iload dX3_newWay_88 rfl ?_
            refine x_isubN dX3_newWay_90 (by omega) ?_
            refine k_V1iT hL dX3_newWay_91 kG_X3_X3_isTarget kP_X3_isTarget rfl (by omega) (by decide) (Nat.le_of_ble_eq_true rfl) (d_isTarget hL (by omega)) ?_
            refine x_ifB_eq (tgt := 99) dX3_newWay_94 (by decide) (fun hc94 => ?_) (fun hc94 => ?_)
            · refine x_iincN (n := 1) dX3_newWay_99 (by decide) rfl (by decide) rfl ?_
              refine x_goto (tgt := 34) dX3_newWay_102 (by decide) ?_
              rw [cwL, if_pos hc46, if_neg (fun z => hc74 z.2), if_neg (fun z => hc94 z.2)]
              exact ih (i + 1) _ (by omega) (by omega) (by omega)
            · refine x_icm1 dX3_newWay_97 ?_
              rw [cwL, if_pos hc46, if_neg (fun z => hc74 z.2), if_pos ⟨hia, hc94⟩]
              exact x_iret dX3_newWay_98 rfl (by rfl) fc_re.of
        · refine x_ic1 dX3_newWay_77 ?_
          rw [cwL, if_pos hc46, if_pos ⟨hc63, hc74⟩]
          exact x_iret dX3_newWay_78 rfl (by rfl) fc_re.of
theorem kG_X3_X3_firstHere : GoodIn lw_all (wsV RX3 167 RX3 yX3_firstHere (ws_ yX3_firstHere cX3_firstHere 3 (some .int))) := lw_V q962 q964 qs33 q121 q965
theorem kP_X3_firstHere : kPar yX3_firstHere 1 := by decide +kernel
theorem kG_X3_X4_way : GoodIn lw_all (wsV RX3 91 RX4 yX4_way (ws_ yX4_way cX4_way 1 (some .int))) := lw_V q892 q893 q894 q122 q895
theorem kP_X4_way : kPar yX4_way 0 := by decide +kernel
set_option maxHeartbeats 1000000 in
theorem d_newWay (hL : LT g M β) (hO : PC g M S π β f nC w) {n : Nat} (hn : n ≤ 60) (hw : w 2 = nI n) {c a : Nat} (hc : c < 4) (ha : w (10 + 20 * c + 0) = nI a) (haf : a < f) : fc_CX g l yX3_newWay cX3_newWay 5 (some .int) 3 [.ref (fc_B g + β), .int (nI c)] (cR M S U β w) (fc_re (cnW w c a f (U β 9) (U β 10) (fhW w c n (n + 1) 0)) (cR M S U β w)) := by
  refine fc_enter (by decide) (Nat.le_of_ble_eq_true rfl) rfl ?_
  refine x_aload_n dX3_newWay_0 rfl ?_
  refine k_cars 1 rfl hL dX3_newWay_1 q349 ?_
  refine x_iload_n dX3_newWay_4 rfl ?_
  refine k_cald hL dX3_newWay_5 (by omega) ?_
  refine k_cget 0 0 rfl hL dX3_newWay_6 (by decide) q309 (by omega) ?_
  refine x_top ha ?_
  refine x_istore_n dX3_newWay_9 (by decide) rfl ?_
  refine x_aload_n dX3_newWay_10 rfl ?_
  refine x_iload_n dX3_newWay_11 rfl ?_
  refine k_V1iT hL dX3_newWay_12 kG_X3_X3_firstHere kP_X3_firstHere rfl (by omega) (by decide) (Nat.le_of_ble_eq_true rfl) (d_firstHere hL hn hw (by omega)) ?_
  refine x_istore_n dX3_newWay_15 (by decide) rfl ?_
  refine x_iload_n dX3_newWay_16 rfl ?_
  refine x_icm1 dX3_newWay_17 ?_
  refine x_icmp_eq (tgt := 31) dX3_newWay_18 (by decide) (fun hc18 => ?_) (fun hc18 => ?_)
  · refine x_ic1 dX3_newWay_31 ?_
    refine x_istore dX3_newWay_32 (by decide) rfl ?_
    rw [show cnW w c a f (U β 9) (U β 10) (fhW w c n (n + 1) 0) = orH (cwL (U β 9) (U β 10) a f (f + 1) 1) (hmW w c a) from if_pos hc18]
    exact fc_dep (by omega) (m_newWay hL hO hn hw hc ha haf (f + 1) 1 _ (by omega) (by omega) (by omega))
  · refine x_aload_n dX3_newWay_21 rfl ?_
    obtain ⟨j, hj, ej⟩ := (fhW_or (w := w) (c := c) (n := n) (n + 1) 0).resolve_left hc18
    refine k_people 0 rfl hL dX3_newWay_22 q347 ?_
    refine x_iload_n dX3_newWay_25 rfl ?_
    refine x_top ej ?_
    refine k_pald hL dX3_newWay_26 (by omega) ?_
    refine k_V0iP hL (by omega) dX3_newWay_27 kG_X3_X4_way kP_X4_way rfl (by omega) (by decide) (Nat.le_of_ble_eq_true rfl) (d_way hL (by omega)) ?_
    exact x_iret dX3_newWay_30 rfl (by rfl) (fc_re.of2 (show _ = cnW w c a f (U β 9) (U β 10) (fhW w c n (n + 1) 0) from by rw [cnW, if_neg hc18, ej, nI_clamp (by omega)]) rfl)
end T96

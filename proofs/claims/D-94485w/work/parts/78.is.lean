set_option maxRecDepth 100000
section T78
variable {g : fc_G} {l : Launch} {M : fc_M} {T : tT} {w : Nat → Int32}
theorem fs_0 : fcStr[0]? = some ("FourCars", 15, "cost", [99, 111, 115, 116]) := rfl
theorem fs_1 : fcStr[1]? = some ("FourCars", 17, "never", [110, 101, 118, 101, 114]) := rfl
theorem fs_2 : fcStr[2]? = some ("FourCars", 23, "floors", [102, 108, 111, 111, 114, 115]) := rfl
theorem fs_3 : fcStr[3]? = some ("FourCars", 25, "car", [99, 97, 114]) := rfl
theorem fs_4 : fcStr[4]? = some ("FourCars", 27, "skip", [115, 107, 105, 112]) := rfl
theorem fs_5 : fcStr[5]? = some ("FourCars", 32, "far", [102, 97, 114]) := rfl
theorem fs_6 : fcStr[6]? = some ("FourCars", 34, "same", [115, 97, 109, 101]) := rfl
theorem fs_7 : fcStr[7]? = some ("FourCars", 36, "against", [97, 103, 97, 105, 110, 115, 116]) := rfl
theorem fs_8 : fcStr[8]? = some ("FourCars", 38, "load", [108, 111, 97, 100]) := rfl
theorem fs_9 : fcStr[9]? = some ("FourCars", 40, "given", [103, 105, 118, 101, 110]) := rfl
theorem fs_10 : fcStr[10]? = some ("FourCars", 42, "idle", [105, 100, 108, 101]) := rfl
theorem fs_11 : fcStr[11]? = some ("FourCars", 44, "up", [117, 112]) := rfl
theorem fs_12 : fcStr[12]? = some ("FourCars", 46, "floor", [102, 108, 111, 111, 114]) := rfl
theorem fs_13 : fcStr[13]? = some ("FourCars", 48, "waits", [119, 97, 105, 116, 115]) := rfl
theorem fs_14 : fcStr[14]? = some ("FourCars", 53, "when", [119, 104, 101, 110]) := rfl
theorem fs_15 : fcStr[15]? = some ("FourCars", 55, "or", [111, 114]) := rfl
theorem fs_16 : fcStr[16]? = some ("FourCars", 57, "and", [97, 110, 100]) := rfl
theorem fs_17 : fcStr[17]? = some ("FourCars", 59, "not", [110, 111, 116]) := rfl
theorem fs_18 : fcStr[18]? = some ("FourCars", 205, ";+-*/()<=>", [59, 43, 45, 42, 47, 40, 41, 60, 61, 62]) := rfl
theorem fs_19 : fcStr[19]? = some ("FourCarsModel", 89, "floors", [102, 108, 111, 111, 114, 115]) := rfl
theorem fs_20 : fcStr[20]? = some ("FourCarsModel", 95, "car", [99, 97, 114]) := rfl
theorem fs_21 : fcStr[21]? = some ("FourCarsModel", 97, "skip", [115, 107, 105, 112]) := rfl
theorem fs_22 : fcStr[22]? = some ("FourCarsModel", 123, "when", [119, 104, 101, 110]) := rfl
theorem fs_23 : fcStr[23]? = some ("FourCarsModel", 125, "or", [111, 114]) := rfl
theorem fs_24 : fcStr[24]? = some ("FourCarsModel", 127, "and", [97, 110, 100]) := rfl
theorem fs_25 : fcStr[25]? = some ("FourCarsModel", 129, "not", [110, 111, 116]) := rfl
theorem fs_26 : fcStr[26]? = some ("FourCarsModel", 131, "cost", [99, 111, 115, 116]) := rfl
theorem fs_27 : fcStr[27]? = some ("FourCarsModel", 133, "never", [110, 101, 118, 101, 114]) := rfl
theorem fs_28 : fcStr[28]? = some ("FourCarsModel", 99, "far", [102, 97, 114]) := rfl
theorem fs_29 : fcStr[29]? = some ("FourCarsModel", 101, "same", [115, 97, 109, 101]) := rfl
theorem fs_30 : fcStr[30]? = some ("FourCarsModel", 103, "against", [97, 103, 97, 105, 110, 115, 116]) := rfl
theorem fs_31 : fcStr[31]? = some ("FourCarsModel", 105, "load", [108, 111, 97, 100]) := rfl
theorem fs_32 : fcStr[32]? = some ("FourCarsModel", 107, "given", [103, 105, 118, 101, 110]) := rfl
theorem fs_33 : fcStr[33]? = some ("FourCarsModel", 109, "idle", [105, 100, 108, 101]) := rfl
theorem fs_34 : fcStr[34]? = some ("FourCarsModel", 111, "up", [117, 112]) := rfl
theorem fs_35 : fcStr[35]? = some ("FourCarsModel", 113, "floor", [102, 108, 111, 111, 114]) := rfl
theorem fs_36 : fcStr[36]? = some ("FourCarsModel", 115, "waits", [119, 97, 105, 116, 115]) := rfl
theorem fc_chr0 : ∀ q ∈ fcStr, q.2.2.2.length < 2 ^ 31 ∧ ∀ x ∈ q.2.2.2, ((x &&& nI 255).toUInt32 % 65536).toInt32 = x ∧ x.toUInt32.toUInt16.toUInt32.toInt32 = x := by decide +kernel
theorem fc_chr {j : Nat} {q : String × Nat × String × List Int32} (h : fcStr[j]? = some q) : q.2.2.2.length < 2 ^ 31 ∧ ∀ i, i < q.2.2.2.length → (((q.2.2.2.getD i 0) &&& nI 255).toUInt32 % 65536).toInt32 = q.2.2.2.getD i 0 ∧ narrow .char (.int (q.2.2.2.getD i 0)) = .int (q.2.2.2.getD i 0) := by
  have h0 := fc_chr0 q (List.mem_of_getElem? h)
  refine ⟨h0.1, fun i hi => ?_⟩
  have e : q.2.2.2.getD i 0 ∈ q.2.2.2 := by
    rw [List.getD_eq_getElem?_getD, List.getElem?_eq_getElem hi]
    exact List.getElem_mem hi
  have h1 := h0.2 _ e
  exact ⟨h1.1, congrArg Value.int h1.2⟩
abbrev isPf (b : Nat → Int32) (s n : Nat) (bs : List Int32) (i : Nat) : Prop := n = bs.length ∧ ∀ m, m < i → b (s + m) = bs.getD m 0
abbrev isWd (b : Nat → Int32) (s n : Nat) (bs : List Int32) : Prop := isPf b s n bs bs.length
theorem isPf_s {b : Nat → Int32} {s n i : Nat} {bs : List Int32} (h : isPf b s n bs i) (e : b (s + i) = bs.getD i 0) : isPf b s n bs (i + 1) := ⟨h.1, fun m hm => by
  rcases Nat.lt_or_ge m i with q | q
  · exact h.2 m q
  · obtain rfl : m = i := by omega
    exact e⟩
theorem kG_X6_J0_length : GoodIn lw_all (wsV RX6 79 RJ0 yJ0_length (ws_ yJ0_length cJ0_length 1 (some .int))) := lw_V q1287 q539 q540 q127 q541
theorem kP_J0_length : kPar yJ0_length 0 := by decide +kernel
theorem kG_X6_J0_charAt : GoodIn lw_all (wsV RX6 85 RJ0 yJ0_charAt (ws_ yJ0_charAt cJ0_charAt 2 (some .char))) := lw_V q1288 q549 q550 q127 q551
theorem kP_J0_charAt : kPar yJ0_charAt 1 := by decide +kernel
set_option maxHeartbeats 1000000 in
theorem l_is {n0 s0 : Nat} (hM : tw0 + 17 ≤ fc_nx M) {j : Nat} {q : String × Nat × String × List Int32} (hj : fcStr[j]? = some q) {s n : Nat} (h19 : T 0 19 = nI s) (hl : s + n ≤ 400) (hN : q.2.2.2.length < 2 ^ 31) (hb : ∀ i, i < q.2.2.2.length → (((q.2.2.2.getD i 0) &&& nI 255).toUInt32 % 65536).toInt32 = q.2.2.2.getD i 0 ∧ narrow .char (.int (q.2.2.2.getD i 0)) = .int (q.2.2.2.getD i 0)) : ∀ (k i : Nat), i ≤ q.2.2.2.length → q.2.2.2.length < i + k → fc_X g l yX6_is cX6_is 4 (some .boolean) 5 n0 s0 (tv g M T w) 24 [some (.ref (fc_B g + tw0)), some (.ref (fc_sK g j)), some (.int (bI (isPf (T 7) s n q.2.2.2 i))), some (.int (nI i))] [] (tv_ie g M (bI (isWd (T 7) s n q.2.2.2)) T w) := by
  intro k
  induction k with
  | zero => intro i h1 h2; omega
  | succ k ih =>
    intro i h1 h2
    refine x_iload_n dX6_is_24 rfl ?_
    refine x_aload_n dX6_is_25 rfl ?_
    refine x_O0e dX6_is_26 kG_X6_J0_length kP_J0_length (fun U h => (h.2.2.2.1 j q hj).2.1) (by omega) (by decide) (Nat.le_of_ble_eq_true rfl) (c_length hj) ?_
    refine x_icmpN_ge (tgt := 67) dX6_is_29 (by decide) (by omega) (by omega) (fun hc29 => ?_) (fun hc29 => ?_)
    · refine x_iload_n dX6_is_67 rfl ?_
      obtain rfl : i = q.2.2.2.length := by omega
      exact x_iret dX6_is_68 rfl bI_nar tv_i1
    · refine x_iload_n dX6_is_32 rfl ?_
      refine x_ifB_eq (tgt := 67) dX6_is_33 (by decide) (fun hc33 => ?_) (fun hc33 => ?_)
      · refine x_iload_n dX6_is_67 rfl ?_
        refine x_iret dX6_is_68 rfl bI_nar (tv_i2 ?_ rfl rfl)
        exact bI_congr ⟨fun z => absurd z hc33, fun z => absurd ⟨z.1, fun m hm => z.2 m (by omega)⟩ hc33⟩
      · refine x_aload_n dX6_is_36 rfl ?_
        have h9 := hc33.1
        refine v_geta 7 hM dX6_is_37 (by decide) rfl q1137 ?_
        refine x_aload_n dX6_is_40 rfl ?_
        refine v_geti 19 hM dX6_is_41 (by decide) rfl q1149 ?_
        refine x_top h19 ?_
        refine x_iload_n dX6_is_44 rfl ?_
        refine x_iaddN dX6_is_45 ?_
        refine v_iald 7 hM dX6_is_46 (by decide) (by decide) rfl rfl (by show _ < 400; omega) ?_
        refine x_aload_n dX6_is_47 rfl ?_
        refine x_iload_n dX6_is_48 rfl ?_
        refine x_O1e dX6_is_49 kG_X6_J0_charAt kP_J0_charAt (fun U h => (h.2.2.2.1 j q hj).2.1) (by omega) (by decide) (Nat.le_of_ble_eq_true rfl) (c_charAt (x := q.2.2.2.getD i 0) hj hc29 hN rfl (hb i hc29).1 (hb i hc29).2) ?_
        refine x_icmp_ne (tgt := 59) dX6_is_52 (by decide) (fun hc52 => ?_) (fun hc52 => ?_)
        · refine x_ic0 dX6_is_59 ?_
          refine x_top (show nI 0 = bI (isPf (T 7) s n q.2.2.2 (i + 1)) from (bI_f (fun z => hc52 (z.2 i (Nat.lt_succ_self i)))).symm) ?_
          refine x_istore_n dX6_is_60 (by decide) rfl ?_
          refine x_iincN (n := 1) dX6_is_61 (by decide) rfl (by decide) rfl ?_
          refine x_goto (tgt := 24) dX6_is_64 (by decide) ?_
          exact ih (i + 1) (by omega) (by omega)
        · refine x_ic1 dX6_is_55 ?_
          refine x_top (show nI 1 = bI (isPf (T 7) s n q.2.2.2 (i + 1)) from (bI_t (isPf_s hc33 hc52)).symm) ?_
          refine x_goto (tgt := 60) dX6_is_56 (by decide) ?_
          refine x_istore_n dX6_is_60 (by decide) rfl ?_
          refine x_iincN (n := 1) dX6_is_61 (by decide) rfl (by decide) rfl ?_
          refine x_goto (tgt := 24) dX6_is_64 (by decide) ?_
          exact ih (i + 1) (by omega) (by omega)
set_option maxHeartbeats 1000000 in
theorem c_is (hM : tw0 + 17 ≤ fc_nx M) {j : Nat} {q : String × Nat × String × List Int32} (hj : fcStr[j]? = some q) {s n : Nat} {bs : List Int32} (hq : q.2.2.2 = bs) (h17 : T 0 17 = nI (s + n)) (h19 : T 0 19 = nI s) (hl : s + n ≤ 400) : fc_CX g l yX6_is cX6_is 4 (some .boolean) 5 [.ref (fc_B g + tw0), .ref (fc_sK g j)] (tv g M T w) (tv_ie g M (bI (isWd (T 7) s n bs)) T w) := by
  refine fc_enter (by decide) (Nat.le_of_ble_eq_true rfl) rfl ?_
  subst hq
  obtain ⟨hN, hb⟩ := fc_chr hj
  refine x_aload_n dX6_is_0 rfl ?_
  refine v_geti 17 hM dX6_is_1 (by decide) rfl q1147 ?_
  refine x_top h17 ?_
  refine x_aload_n dX6_is_4 rfl ?_
  refine v_geti 19 hM dX6_is_5 (by decide) rfl q1149 ?_
  refine x_top h19 ?_
  refine x_isubN dX6_is_8 (by omega) ?_
  refine x_top (show nI (s + n - s) = nI n by rw [Nat.add_sub_cancel_left]) ?_
  refine x_aload_n dX6_is_9 rfl ?_
  refine x_O0e dX6_is_10 kG_X6_J0_length kP_J0_length (fun U h => (h.2.2.2.1 j q hj).2.1) (by omega) (by decide) (Nat.le_of_ble_eq_true rfl) (c_length hj) ?_
  refine x_icmpN_ne (tgt := 20) dX6_is_13 (by decide) (by omega) (by omega) (fun hc13 => ?_) (fun hc13 => ?_)
  · refine x_ic0 dX6_is_20 ?_
    refine x_top (show nI 0 = bI (isPf (T 7) s n q.2.2.2 0) from (bI_f (fun z => hc13 z.1)).symm) ?_
    refine x_istore_n dX6_is_21 (by decide) rfl ?_
    refine x_ic0 dX6_is_22 ?_
    refine x_istore_n dX6_is_23 (by decide) rfl ?_
    exact l_is hM hj h19 hl hN hb (q.2.2.2.length + 1) 0 (by omega) (by omega)
  · refine x_ic1 dX6_is_16 ?_
    refine x_top (show nI 1 = bI (isPf (T 7) s n q.2.2.2 0) from (bI_t ⟨hc13, fun m hm => absurd hm (Nat.not_lt_zero m)⟩).symm) ?_
    refine x_goto (tgt := 21) dX6_is_17 (by decide) ?_
    refine x_istore_n dX6_is_21 (by decide) rfl ?_
    refine x_ic0 dX6_is_22 ?_
    refine x_istore_n dX6_is_23 (by decide) rfl ?_
    exact l_is hM hj h19 hl hN hb (q.2.2.2.length + 1) 0 (by omega) (by omega)
def twW (b : Nat → Int32) (s n : Nat) : Int32 := if isWd b s n [102, 108, 111, 111, 114, 115] then nI 30 else if isWd b s n [99, 97, 114] then nI 31 else if isWd b s n [115, 107, 105, 112] then nI 32 else nI 1
def nmW (b : Nat → Int32) (s n : Nat) : Int32 := if isWd b s n [102, 97, 114] then nI 41 else if isWd b s n [115, 97, 109, 101] then nI 42 else if isWd b s n [97, 103, 97, 105, 110, 115, 116] then nI 43 else if isWd b s n [108, 111, 97, 100] then nI 44 else if isWd b s n [103, 105, 118, 101, 110] then nI 45 else if isWd b s n [105, 100, 108, 101] then nI 46 else if isWd b s n [117, 112] then nI 47 else if isWd b s n [102, 108, 111, 111, 114] then nI 48 else if isWd b s n [119, 97, 105, 116, 115] then nI 49 else if isWd b s n [99, 97, 114] then nI 50 else nI 1
def rwW (b : Nat → Int32) (s n : Nat) : Int32 := if isWd b s n [119, 104, 101, 110] then nI 3 else if isWd b s n [111, 114] then nI 4 else if isWd b s n [97, 110, 100] then nI 5 else if isWd b s n [110, 111, 116] then nI 6 else if isWd b s n [99, 111, 115, 116] then nI 20 else if isWd b s n [110, 101, 118, 101, 114] then nI 21 else nmW b s n
def wdW (wh : Int32) (b : Nat → Int32) (s n : Nat) : Int32 := if wh = nI 3 then twW b s n else rwW b s n
theorem kG_X6_X6_is : GoodIn lw_all (wsV RX6 91 RX6 yX6_is (ws_ yX6_is cX6_is 4 (some .boolean))) := lw_V q1283 q1285 qs54 q124 q1286
theorem kP_X6_is : kPar yX6_is 1 := by decide +kernel
set_option maxHeartbeats 1000000 in
theorem c_towerWord (hM : tw0 + 17 ≤ fc_nx M) {s n : Nat} (h17 : T 0 17 = nI (s + n)) (h19 : T 0 19 = nI s) (hl : s + n ≤ 400) : fc_CX g l yX6_towerWord cX6_towerWord 1 (some .int) 6 [.ref (fc_B g + tw0)] (tv g M T w) (tv_ie g M (twW (T 7) s n) T w) := by
  refine fc_enter (by decide) (Nat.le_of_ble_eq_true rfl) rfl ?_
  refine x_aload_n dX6_towerWord_0 rfl ?_
  refine x_ldcS fs_19 rfl rfl dX6_towerWord_1 ?_
  refine v_V1ie hM dX6_towerWord_3 kG_X6_X6_is kP_X6_is rfl (by omega) (by decide) (Nat.le_of_ble_eq_true rfl) (c_is hM fs_19 rfl h17 h19 hl) ?_
  refine x_ifB_eq (tgt := 12) dX6_towerWord_6 (by decide) (fun hc6 => ?_) (fun hc6 => ?_)
  · refine x_aload_n dX6_towerWord_12 rfl ?_
    refine x_ldcS fs_20 rfl rfl dX6_towerWord_13 ?_
    refine v_V1ie hM dX6_towerWord_15 kG_X6_X6_is kP_X6_is rfl (by omega) (by decide) (Nat.le_of_ble_eq_true rfl) (c_is hM fs_20 rfl h17 h19 hl) ?_
    refine x_ifB_eq (tgt := 24) dX6_towerWord_18 (by decide) (fun hc18 => ?_) (fun hc18 => ?_)
    · refine x_aload_n dX6_towerWord_24 rfl ?_
      refine x_ldcS fs_21 rfl rfl dX6_towerWord_25 ?_
      refine v_V1ie hM dX6_towerWord_27 kG_X6_X6_is kP_X6_is rfl (by omega) (by decide) (Nat.le_of_ble_eq_true rfl) (c_is hM fs_21 rfl h17 h19 hl) ?_
      refine x_ifB_eq (tgt := 38) dX6_towerWord_30 (by decide) (fun hc30 => ?_) (fun hc30 => ?_)
      · refine x_ic1 dX6_towerWord_38 ?_
        refine x_iret dX6_towerWord_39 rfl (by rfl) (tv_i2 ?_ rfl rfl)
        rw [twW, if_neg hc6, if_neg hc18, if_neg hc30]
      · refine x_bipush (v := nI 32) dX6_towerWord_33 (by decide) ?_
        refine x_goto (tgt := 39) dX6_towerWord_35 (by decide) ?_
        refine x_iret dX6_towerWord_39 rfl (by rfl) (tv_i2 ?_ rfl rfl)
        rw [twW, if_neg hc6, if_neg hc18, if_pos hc30]
    · refine x_bipush (v := nI 31) dX6_towerWord_21 (by decide) ?_
      refine x_iret dX6_towerWord_23 rfl (by rfl) (tv_i2 ?_ rfl rfl)
      rw [twW, if_neg hc6, if_pos hc18]
  · refine x_bipush (v := nI 30) dX6_towerWord_9 (by decide) ?_
    refine x_iret dX6_towerWord_11 rfl (by rfl) (tv_i2 ?_ rfl rfl)
    rw [twW, if_pos hc6]
set_option maxHeartbeats 1000000 in
theorem c_nameWord (hM : tw0 + 17 ≤ fc_nx M) {s n : Nat} (h17 : T 0 17 = nI (s + n)) (h19 : T 0 19 = nI s) (hl : s + n ≤ 400) : fc_CX g l yX6_nameWord cX6_nameWord 1 (some .int) 6 [.ref (fc_B g + tw0)] (tv g M T w) (tv_ie g M (nmW (T 7) s n) T w) := by
  refine fc_enter (by decide) (Nat.le_of_ble_eq_true rfl) rfl ?_
  refine x_aload_n dX6_nameWord_0 rfl ?_
  refine x_ldcS fs_28 rfl rfl dX6_nameWord_1 ?_
  refine v_V1ie hM dX6_nameWord_3 kG_X6_X6_is kP_X6_is rfl (by omega) (by decide) (Nat.le_of_ble_eq_true rfl) (c_is hM fs_28 rfl h17 h19 hl) ?_
  refine x_ifB_eq (tgt := 12) dX6_nameWord_6 (by decide) (fun hc6 => ?_) (fun hc6 => ?_)
  · refine x_aload_n dX6_nameWord_12 rfl ?_
    refine x_ldcS fs_29 rfl rfl dX6_nameWord_13 ?_
    refine v_V1ie hM dX6_nameWord_15 kG_X6_X6_is kP_X6_is rfl (by omega) (by decide) (Nat.le_of_ble_eq_true rfl) (c_is hM fs_29 rfl h17 h19 hl) ?_
    refine x_ifB_eq (tgt := 24) dX6_nameWord_18 (by decide) (fun hc18 => ?_) (fun hc18 => ?_)
    · refine x_aload_n dX6_nameWord_24 rfl ?_
      refine x_ldcS fs_30 rfl rfl dX6_nameWord_25 ?_
      refine v_V1ie hM dX6_nameWord_27 kG_X6_X6_is kP_X6_is rfl (by omega) (by decide) (Nat.le_of_ble_eq_true rfl) (c_is hM fs_30 rfl h17 h19 hl) ?_
      refine x_ifB_eq (tgt := 36) dX6_nameWord_30 (by decide) (fun hc30 => ?_) (fun hc30 => ?_)
      · refine x_aload_n dX6_nameWord_36 rfl ?_
        refine x_ldcS fs_31 rfl rfl dX6_nameWord_37 ?_
        refine v_V1ie hM dX6_nameWord_39 kG_X6_X6_is kP_X6_is rfl (by omega) (by decide) (Nat.le_of_ble_eq_true rfl) (c_is hM fs_31 rfl h17 h19 hl) ?_
        refine x_ifB_eq (tgt := 48) dX6_nameWord_42 (by decide) (fun hc42 => ?_) (fun hc42 => ?_)
        · refine x_aload_n dX6_nameWord_48 rfl ?_
          refine x_ldcS fs_32 rfl rfl dX6_nameWord_49 ?_
          refine v_V1ie hM dX6_nameWord_51 kG_X6_X6_is kP_X6_is rfl (by omega) (by decide) (Nat.le_of_ble_eq_true rfl) (c_is hM fs_32 rfl h17 h19 hl) ?_
          refine x_ifB_eq (tgt := 60) dX6_nameWord_54 (by decide) (fun hc54 => ?_) (fun hc54 => ?_)
          · refine x_aload_n dX6_nameWord_60 rfl ?_
            refine x_ldcS fs_33 rfl rfl dX6_nameWord_61 ?_
            refine v_V1ie hM dX6_nameWord_63 kG_X6_X6_is kP_X6_is rfl (by omega) (by decide) (Nat.le_of_ble_eq_true rfl) (c_is hM fs_33 rfl h17 h19 hl) ?_
            refine x_ifB_eq (tgt := 72) dX6_nameWord_66 (by decide) (fun hc66 => ?_) (fun hc66 => ?_)
            · refine x_aload_n dX6_nameWord_72 rfl ?_
              refine x_ldcS fs_34 rfl rfl dX6_nameWord_73 ?_
              refine v_V1ie hM dX6_nameWord_75 kG_X6_X6_is kP_X6_is rfl (by omega) (by decide) (Nat.le_of_ble_eq_true rfl) (c_is hM fs_34 rfl h17 h19 hl) ?_
              refine x_ifB_eq (tgt := 84) dX6_nameWord_78 (by decide) (fun hc78 => ?_) (fun hc78 => ?_)
              · refine x_aload_n dX6_nameWord_84 rfl ?_
                refine x_ldcS fs_35 rfl rfl dX6_nameWord_85 ?_
                refine v_V1ie hM dX6_nameWord_87 kG_X6_X6_is kP_X6_is rfl (by omega) (by decide) (Nat.le_of_ble_eq_true rfl) (c_is hM fs_35 rfl h17 h19 hl) ?_
                refine x_ifB_eq (tgt := 96) dX6_nameWord_90 (by decide) (fun hc90 => ?_) (fun hc90 => ?_)
                · refine x_aload_n dX6_nameWord_96 rfl ?_
                  refine x_ldcS fs_36 rfl rfl dX6_nameWord_97 ?_
                  refine v_V1ie hM dX6_nameWord_99 kG_X6_X6_is kP_X6_is rfl (by omega) (by decide) (Nat.le_of_ble_eq_true rfl) (c_is hM fs_36 rfl h17 h19 hl) ?_
                  refine x_ifB_eq (tgt := 108) dX6_nameWord_102 (by decide) (fun hc102 => ?_) (fun hc102 => ?_)
                  · refine x_aload_n dX6_nameWord_108 rfl ?_
                    refine x_ldcS fs_20 rfl rfl dX6_nameWord_109 ?_
                    refine v_V1ie hM dX6_nameWord_111 kG_X6_X6_is kP_X6_is rfl (by omega) (by decide) (Nat.le_of_ble_eq_true rfl) (c_is hM fs_20 rfl h17 h19 hl) ?_
                    refine x_ifB_eq (tgt := 122) dX6_nameWord_114 (by decide) (fun hc114 => ?_) (fun hc114 => ?_)
                    · refine x_ic1 dX6_nameWord_122 ?_
                      refine x_iret dX6_nameWord_123 rfl (by rfl) (tv_i2 ?_ rfl rfl)
                      rw [nmW, if_neg hc6, if_neg hc18, if_neg hc30, if_neg hc42, if_neg hc54, if_neg hc66, if_neg hc78, if_neg hc90, if_neg hc102, if_neg hc114]
                    · refine x_bipush (v := nI 50) dX6_nameWord_117 (by decide) ?_
                      refine x_goto (tgt := 123) dX6_nameWord_119 (by decide) ?_
                      refine x_iret dX6_nameWord_123 rfl (by rfl) (tv_i2 ?_ rfl rfl)
                      rw [nmW, if_neg hc6, if_neg hc18, if_neg hc30, if_neg hc42, if_neg hc54, if_neg hc66, if_neg hc78, if_neg hc90, if_neg hc102, if_pos hc114]
                  · refine x_bipush (v := nI 49) dX6_nameWord_105 (by decide) ?_
                    refine x_iret dX6_nameWord_107 rfl (by rfl) (tv_i2 ?_ rfl rfl)
                    rw [nmW, if_neg hc6, if_neg hc18, if_neg hc30, if_neg hc42, if_neg hc54, if_neg hc66, if_neg hc78, if_neg hc90, if_pos hc102]
                · refine x_bipush (v := nI 48) dX6_nameWord_93 (by decide) ?_
                  refine x_iret dX6_nameWord_95 rfl (by rfl) (tv_i2 ?_ rfl rfl)
                  rw [nmW, if_neg hc6, if_neg hc18, if_neg hc30, if_neg hc42, if_neg hc54, if_neg hc66, if_neg hc78, if_pos hc90]
              · refine x_bipush (v := nI 47) dX6_nameWord_81 (by decide) ?_
                refine x_iret dX6_nameWord_83 rfl (by rfl) (tv_i2 ?_ rfl rfl)
                rw [nmW, if_neg hc6, if_neg hc18, if_neg hc30, if_neg hc42, if_neg hc54, if_neg hc66, if_pos hc78]
            · refine x_bipush (v := nI 46) dX6_nameWord_69 (by decide) ?_
              refine x_iret dX6_nameWord_71 rfl (by rfl) (tv_i2 ?_ rfl rfl)
              rw [nmW, if_neg hc6, if_neg hc18, if_neg hc30, if_neg hc42, if_neg hc54, if_pos hc66]
          · refine x_bipush (v := nI 45) dX6_nameWord_57 (by decide) ?_
            refine x_iret dX6_nameWord_59 rfl (by rfl) (tv_i2 ?_ rfl rfl)
            rw [nmW, if_neg hc6, if_neg hc18, if_neg hc30, if_neg hc42, if_pos hc54]
        · refine x_bipush (v := nI 44) dX6_nameWord_45 (by decide) ?_
          refine x_iret dX6_nameWord_47 rfl (by rfl) (tv_i2 ?_ rfl rfl)
          rw [nmW, if_neg hc6, if_neg hc18, if_neg hc30, if_pos hc42]
      · refine x_bipush (v := nI 43) dX6_nameWord_33 (by decide) ?_
        refine x_iret dX6_nameWord_35 rfl (by rfl) (tv_i2 ?_ rfl rfl)
        rw [nmW, if_neg hc6, if_neg hc18, if_pos hc30]
    · refine x_bipush (v := nI 42) dX6_nameWord_21 (by decide) ?_
      refine x_iret dX6_nameWord_23 rfl (by rfl) (tv_i2 ?_ rfl rfl)
      rw [nmW, if_neg hc6, if_pos hc18]
  · refine x_bipush (v := nI 41) dX6_nameWord_9 (by decide) ?_
    refine x_iret dX6_nameWord_11 rfl (by rfl) (tv_i2 ?_ rfl rfl)
    rw [nmW, if_pos hc6]
theorem kG_X6_X6_nameWord : GoodIn lw_all (wsV RX6 135 RX6 yX6_nameWord (ws_ yX6_nameWord cX6_nameWord 1 (some .int))) := lw_V q1297 q1299 qs55 q124 q1300
theorem kP_X6_nameWord : kPar yX6_nameWord 0 := by decide +kernel
theorem kG_X6_X6_towerWord : GoodIn lw_all (wsV RX6 120 RX6 yX6_towerWord (ws_ yX6_towerWord cX6_towerWord 1 (some .int))) := lw_V q1278 q1280 qs53 q124 q1281
theorem kP_X6_towerWord : kPar yX6_towerWord 0 := by decide +kernel
set_option maxHeartbeats 1000000 in
theorem c_word (hM : tw0 + 17 ≤ fc_nx M) {s n : Nat} (h17 : T 0 17 = nI (s + n)) (h19 : T 0 19 = nI s) (hl : s + n ≤ 400) : fc_CX g l yX6_word cX6_word 1 (some .int) 7 [.ref (fc_B g + tw0)] (tv g M T w) (tv_ie g M (wdW (T 0 11) (T 7) s n) T w) := by
  refine fc_enter (by decide) (Nat.le_of_ble_eq_true rfl) rfl ?_
  refine x_aload_n dX6_word_0 rfl ?_
  refine v_geti 11 hM dX6_word_1 (by decide) rfl q1141 ?_
  refine x_ic3 dX6_word_4 ?_
  refine x_icmp_ne (tgt := 13) dX6_word_5 (by decide) (fun hc5 => ?_) (fun hc5 => ?_)
  · refine x_aload_n dX6_word_13 rfl ?_
    refine x_ldcS fs_22 rfl rfl dX6_word_14 ?_
    refine v_V1ie hM dX6_word_16 kG_X6_X6_is kP_X6_is rfl (by omega) (by decide) (Nat.le_of_ble_eq_true rfl) (c_is hM fs_22 rfl h17 h19 hl) ?_
    refine x_ifB_eq (tgt := 24) dX6_word_19 (by decide) (fun hc19 => ?_) (fun hc19 => ?_)
    · refine x_aload_n dX6_word_24 rfl ?_
      refine x_ldcS fs_23 rfl rfl dX6_word_25 ?_
      refine v_V1ie hM dX6_word_27 kG_X6_X6_is kP_X6_is rfl (by omega) (by decide) (Nat.le_of_ble_eq_true rfl) (c_is hM fs_23 rfl h17 h19 hl) ?_
      refine x_ifB_eq (tgt := 35) dX6_word_30 (by decide) (fun hc30 => ?_) (fun hc30 => ?_)
      · refine x_aload_n dX6_word_35 rfl ?_
        refine x_ldcS fs_24 rfl rfl dX6_word_36 ?_
        refine v_V1ie hM dX6_word_38 kG_X6_X6_is kP_X6_is rfl (by omega) (by decide) (Nat.le_of_ble_eq_true rfl) (c_is hM fs_24 rfl h17 h19 hl) ?_
        refine x_ifB_eq (tgt := 46) dX6_word_41 (by decide) (fun hc41 => ?_) (fun hc41 => ?_)
        · refine x_aload_n dX6_word_46 rfl ?_
          refine x_ldcS fs_25 rfl rfl dX6_word_47 ?_
          refine v_V1ie hM dX6_word_49 kG_X6_X6_is kP_X6_is rfl (by omega) (by decide) (Nat.le_of_ble_eq_true rfl) (c_is hM fs_25 rfl h17 h19 hl) ?_
          refine x_ifB_eq (tgt := 58) dX6_word_52 (by decide) (fun hc52 => ?_) (fun hc52 => ?_)
          · refine x_aload_n dX6_word_58 rfl ?_
            refine x_ldcS fs_26 rfl rfl dX6_word_59 ?_
            refine v_V1ie hM dX6_word_61 kG_X6_X6_is kP_X6_is rfl (by omega) (by decide) (Nat.le_of_ble_eq_true rfl) (c_is hM fs_26 rfl h17 h19 hl) ?_
            refine x_ifB_eq (tgt := 70) dX6_word_64 (by decide) (fun hc64 => ?_) (fun hc64 => ?_)
            · refine x_aload_n dX6_word_70 rfl ?_
              refine x_ldcS fs_27 rfl rfl dX6_word_71 ?_
              refine v_V1ie hM dX6_word_73 kG_X6_X6_is kP_X6_is rfl (by omega) (by decide) (Nat.le_of_ble_eq_true rfl) (c_is hM fs_27 rfl h17 h19 hl) ?_
              refine x_ifB_eq (tgt := 84) dX6_word_76 (by decide) (fun hc76 => ?_) (fun hc76 => ?_)
              · refine x_aload_n dX6_word_84 rfl ?_
                refine v_V0ie hM dX6_word_85 kG_X6_X6_nameWord kP_X6_nameWord rfl (by omega) (by decide) (Nat.le_of_ble_eq_true rfl) (c_nameWord hM h17 h19 hl) ?_
                refine x_iret dX6_word_88 rfl (by rfl) (tv_i2 ?_ rfl rfl)
                rw [wdW, if_neg hc5, rwW, if_neg hc19, if_neg hc30, if_neg hc41, if_neg hc52, if_neg hc64, if_neg hc76]
              · refine x_bipush (v := nI 21) dX6_word_79 (by decide) ?_
                refine x_goto (tgt := 88) dX6_word_81 (by decide) ?_
                refine x_iret dX6_word_88 rfl (by rfl) (tv_i2 ?_ rfl rfl)
                rw [wdW, if_neg hc5, rwW, if_neg hc19, if_neg hc30, if_neg hc41, if_neg hc52, if_neg hc64, if_pos hc76]
            · refine x_bipush (v := nI 20) dX6_word_67 (by decide) ?_
              refine x_iret dX6_word_69 rfl (by rfl) (tv_i2 ?_ rfl rfl)
              rw [wdW, if_neg hc5, rwW, if_neg hc19, if_neg hc30, if_neg hc41, if_neg hc52, if_pos hc64]
          · refine x_bipush (v := nI 6) dX6_word_55 (by decide) ?_
            refine x_iret dX6_word_57 rfl (by rfl) (tv_i2 ?_ rfl rfl)
            rw [wdW, if_neg hc5, rwW, if_neg hc19, if_neg hc30, if_neg hc41, if_pos hc52]
        · refine x_ic5 dX6_word_44 ?_
          refine x_iret dX6_word_45 rfl (by rfl) (tv_i2 ?_ rfl rfl)
          rw [wdW, if_neg hc5, rwW, if_neg hc19, if_neg hc30, if_pos hc41]
      · refine x_ic4 dX6_word_33 ?_
        refine x_iret dX6_word_34 rfl (by rfl) (tv_i2 ?_ rfl rfl)
        rw [wdW, if_neg hc5, rwW, if_neg hc19, if_pos hc30]
    · refine x_ic3 dX6_word_22 ?_
      refine x_iret dX6_word_23 rfl (by rfl) (tv_i2 ?_ rfl rfl)
      rw [wdW, if_neg hc5, rwW, if_pos hc19]
  · refine x_aload_n dX6_word_8 rfl ?_
    refine v_V0ie hM dX6_word_9 kG_X6_X6_towerWord kP_X6_towerWord rfl (by omega) (by decide) (Nat.le_of_ble_eq_true rfl) (c_towerWord hM h17 h19 hl) ?_
    refine x_iret dX6_word_12 rfl (by rfl) (tv_i2 ?_ rfl rfl)
    rw [wdW, if_pos hc5]
end T78

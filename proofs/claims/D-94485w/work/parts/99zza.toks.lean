set_option maxRecDepth 100000
section T99ZZA
variable {g : fc_G} {l : Launch} {M : fc_M} {S : tT} {U : tU} {b : Nat → Int32} {t : Nat}
/-- tokens: 0 END 1 NONE 2 WORD 3 NUMBER 4 SIGN -/
theorem x_tok {y : MethodName} {cc : ByteArray} {nL : Nat} {ret : Option FieldType} {d n0 s0 : Nat} {pc : Nat} {L : List (Option Value)} {st : List Value} {Q : Outcome → fc_M → Prop} {i : Nat} {n : String} (j : Nat) (hd : decode cc pc = .ok (.getstatic i, 3)) (hj : j < 5) (hn : (["END", "NONE", "WORD", "NUMBER", "SIGN"] : List String).getD j "" = n) (hq : Cond.fieldLink y.cls i "FourCars$Token" n "LFourCars$Token;" ∈ lw_all) (kk : fc_X g l y cc nL ret d n0 s0 M (pc + 3) L (.ref (fc_tk g j) :: st) Q) : fc_X g l y cc nL ret d n0 s0 M pc L st Q := by
  subst hn
  exact x_getZ hd (fun U h => (h.2.2.2.2.1.1 j hj).1) hq kk
theorem x_acmpT_ne {y : MethodName} {cc : ByteArray} {nL : Nat} {ret : Option FieldType} {d n0 s0 : Nat} {pc : Nat} {L : List (Option Value)} {st : List Value} {Q : Outcome → fc_M → Prop} {i j : Nat} {off : Int} {tgt : Nat} (hd : decode cc pc = .ok (.if_acmp .ne off, 3)) (ht : (pc : Int) + off = (tgt : Int)) (hi : i < 5) (hj : j < 5) (k1 : ¬ i = j → fc_X g l y cc nL ret d n0 s0 M tgt L st Q) (k2 : i = j → fc_X g l y cc nL ret d n0 s0 M (pc + 3) L st Q) : fc_X g l y cc nL ret d n0 s0 M pc L (.ref (fc_tk g j) :: .ref (fc_tk g i) :: st) Q :=
  fc_br (c0 := ¬ i = j) (fun R p e s m args below meth c H ls locs cells slots Qs Mf hSt a1 a2 => lv_acmp_ne (rx := some (fc_tk g i)) (ry := some (fc_tk g j)) hSt.1 hSt.2.1 hd ht (fun z => a1 (fun e => z (by rw [e]))) (fun z => a2 (fun e => e (hSt.2.2.2.2.2.2.2.2.1.2.2.2.2.1.2 i j hi hj (Option.some.inj z))))) k1 (fun z => k2 (Classical.not_not.mp z))
theorem x_acmpT_eq {y : MethodName} {cc : ByteArray} {nL : Nat} {ret : Option FieldType} {d n0 s0 : Nat} {pc : Nat} {L : List (Option Value)} {st : List Value} {Q : Outcome → fc_M → Prop} {i j : Nat} {off : Int} {tgt : Nat} (hd : decode cc pc = .ok (.if_acmp .eq off, 3)) (ht : (pc : Int) + off = (tgt : Int)) (hi : i < 5) (hj : j < 5) (k1 : i = j → fc_X g l y cc nL ret d n0 s0 M tgt L st Q) (k2 : ¬ i = j → fc_X g l y cc nL ret d n0 s0 M (pc + 3) L st Q) : fc_X g l y cc nL ret d n0 s0 M pc L (.ref (fc_tk g j) :: .ref (fc_tk g i) :: st) Q :=
  fc_br (c0 := i = j) (fun R p e s m args below meth c H ls locs cells slots Qs Mf hSt a1 a2 => lv_acmp_eq (rx := some (fc_tk g i)) (ry := some (fc_tk g j)) hSt.1 hSt.2.1 hd ht (fun z => a1 (hSt.2.2.2.2.2.2.2.2.1.2.2.2.2.1.2 i j hi hj (Option.some.inj z))) (fun z => a2 (fun e => z (by rw [e])))) k1 k2
/-- the tape -/
abbrev tpR (S : tT) (b : Nat → Int32) (t : Nat) : Prop := S 0 1 = nI t ∧ t ≤ 400 ∧ ∀ k, k < t → S 1 k &&& nI 255 = b k
theorem q_bald {y : MethodName} {cc : ByteArray} {nL : Nat} {ret : Option FieldType} {d n0 s0 : Nat} {pc : Nat} {L : List (Option Value)} {st : List Value} {Q : Outcome → fc_M → Prop} {a n i : Nat} (hd : decode cc pc = .ok (.baload, 1)) (ha : a < fc_nx M) (hs : fc_sh M a = .inr (.byte, n)) (hn : n < 2 ^ 31) (hi : i < n) (kk : fc_X g l y cc nL ret d n0 s0 (cl M S U) (pc + 1) L (.int (S a i) :: st) Q) : fc_X g l y cc nL ret d n0 s0 (cl M S U) pc L (.int (nI i) :: .ref (fc_B g + a) :: st) Q :=
  x_bald hd ha hs hn hi (cl_i (by rw [hs]; rfl)) kk
set_option maxHeartbeats 1000000 in
theorem d_raw (hF : LF g M) (hT : tpR S b t) {k : Nat} (hk : k < 2 ^ 31) : fc_CX g l yX0_raw cX0_raw 2 (some .int) 1 [.ref (fc_B g + 0), .int (nI k)] (cl M S U) (fc_re (sq b t k) (cl M S U)) := by
  refine fc_enter (by decide) (Nat.le_of_ble_eq_true rfl) rfl ?_
  have ht4 := hT.2.1
  refine x_iload_n dX0_raw_0 rfl ?_
  refine x_aload_n dX0_raw_1 rfl ?_
  refine q_geti 0 1 dX0_raw_2 (C := RX0) (T := TX0) (N := 30) rfl (by decide) q396 (show 0 < fc_nx M by have := hF.1; omega) (hF.2.2 0 _ rfl) rfl rfl ?_
  refine x_top hT.1 ?_
  refine x_icmpN_ge (tgt := 21) dX0_raw_5 (by decide) (by omega) (by omega) (fun hc5 => ?_) (fun hc5 => ?_)
  · refine x_icm1 dX0_raw_21 ?_
    exact x_iret dX0_raw_22 rfl rfl (fc_re.of2 (if_neg (Nat.not_lt.mpr hc5)).symm rfl)
  · refine x_aload_n dX0_raw_8 rfl ?_
    refine q_getr 0 0 dX0_raw_9 (C := RX0) (T := TX0) (N := 30) rfl (by decide) q395 (show 0 < fc_nx M by have := hF.1; omega) (hF.2.2 0 _ rfl) rfl (hF.2.1 0 _ rfl) ?_
    refine x_iload_n dX0_raw_12 rfl ?_
    refine q_bald dX0_raw_13 (show 1 < fc_nx M by have := hF.1; omega) (hF.2.2 1 _ rfl) (by decide) (by omega) ?_
    refine x_sipush (v := nI 255) dX0_raw_14 (by decide) ?_
    refine x_iand dX0_raw_17 ?_
    refine x_goto (tgt := 22) dX0_raw_18 (by decide) ?_
    exact x_iret dX0_raw_22 rfl rfl (fc_re.of2 ((hT.2.2 k hc5).trans (if_pos hc5).symm) rfl)
set_option maxHeartbeats 1000000 in
theorem d_isLetter {x : Int32} : fc_CX g l yX0_isLetter cX0_isLetter 1 (some .boolean) 2 [.int x] (M) (fc_re (bI (isLe x)) M) := by
  refine fc_enter (by decide) (Nat.le_of_ble_eq_true rfl) rfl ?_
  refine x_iload_n dX0_isLetter_0 rfl ?_
  refine x_bipush (v := nI 97) dX0_isLetter_1 (by decide) ?_
  refine x_bipush (v := nI 122) dX0_isLetter_3 (by decide) ?_
  refine k_S3i dX0_isLetter_5 kG_X0_X0_isIn kP_X0_isIn (by omega) (by decide) (Nat.le_of_ble_eq_true rfl) d_isIn ?_
  refine x_ifB_ne (tgt := 22) dX0_isLetter_8 (by decide) (fun hc8 => ?_) (fun hc8 => ?_)
  · refine x_ic1 dX0_isLetter_22 ?_
    refine x_goto (tgt := 27) dX0_isLetter_23 (by decide) ?_
    exact x_iret dX0_isLetter_27 rfl (by rfl) (fc_re.of2 (bI_t (Or.inl hc8)).symm rfl)
  · refine x_iload_n dX0_isLetter_11 rfl ?_
    refine x_bipush (v := nI 65) dX0_isLetter_12 (by decide) ?_
    refine x_bipush (v := nI 90) dX0_isLetter_14 (by decide) ?_
    refine k_S3i dX0_isLetter_16 kG_X0_X0_isIn kP_X0_isIn (by omega) (by decide) (Nat.le_of_ble_eq_true rfl) d_isIn ?_
    refine x_ifB_eq (tgt := 26) dX0_isLetter_19 (by decide) (fun hc19 => ?_) (fun hc19 => ?_)
    · refine x_ic0 dX0_isLetter_26 ?_
      exact x_iret dX0_isLetter_27 rfl (by rfl) (fc_re.of2 (bI_f (fun z => z.elim hc8 hc19)).symm rfl)
    · refine x_ic1 dX0_isLetter_22 ?_
      refine x_goto (tgt := 27) dX0_isLetter_23 (by decide) ?_
      exact x_iret dX0_isLetter_27 rfl (by rfl) (fc_re.of2 (bI_t (Or.inr hc19)).symm rfl)
set_option maxHeartbeats 1000000 in
theorem d_isDigit {x : Int32} : fc_CX g l yX0_isDigit cX0_isDigit 1 (some .boolean) 2 [.int x] (M) (fc_re (bI (isDi x)) M) := by
  refine fc_enter (by decide) (Nat.le_of_ble_eq_true rfl) rfl ?_
  refine x_iload_n dX0_isDigit_0 rfl ?_
  refine x_bipush (v := nI 48) dX0_isDigit_1 (by decide) ?_
  refine x_bipush (v := nI 57) dX0_isDigit_3 (by decide) ?_
  refine k_S3i dX0_isDigit_5 kG_X0_X0_isIn kP_X0_isIn (by omega) (by decide) (Nat.le_of_ble_eq_true rfl) d_isIn ?_
  exact x_iret dX0_isDigit_8 rfl bI_nar fc_re.of
theorem kG_X0_J0_length : GoodIn lw_all (wsV RX0 141 RJ0 yJ0_length (ws_ yJ0_length cJ0_length 1 (some .int))) := lw_V q538 q539 q540 q127 q541
theorem kG_X0_J0_charAt : GoodIn lw_all (wsV RX0 155 RJ0 yJ0_charAt (ws_ yJ0_charAt cJ0_charAt 2 (some .char))) := lw_V q548 q549 q550 q127 q551
theorem kG_X0_X0_raw : GoodIn lw_all (wsV RX0 151 RX0 yX0_raw (ws_ yX0_raw cX0_raw 2 (some .int))) := lw_V q517 q519 qs3 q118 q520
theorem kP_X0_raw : kPar yX0_raw 1 := by decide +kernel
set_option maxHeartbeats 1000000 in
theorem m_spells {n0 s0 : Nat} (hF : LF g M) (hT : tpR S b t) {j : Nat} {q : String × Nat × String × List Int32} (hj : fcStr[j]? = some q) {s n : Nat} (h8 : S 0 8 = nI s) (h7 : S 0 7 = nI (s + n)) (hl : s + n ≤ t) (hn : n = q.2.2.2.length) (hN : q.2.2.2.length < 2 ^ 31) (hb : ∀ i, i < q.2.2.2.length → (((q.2.2.2.getD i 0) &&& nI 255).toUInt32 % 65536).toInt32 = q.2.2.2.getD i 0 ∧ narrow .char (.int (q.2.2.2.getD i 0)) = .int (q.2.2.2.getD i 0)) : ∀ (k i : Nat), i ≤ q.2.2.2.length → q.2.2.2.length < i + k → (∀ m, m < i → b (s + m) = q.2.2.2.getD m 0) → fc_X g l yX0_spells cX0_spells 3 (some .boolean) 5 n0 s0 (cl M S U) 20 [some (.ref (fc_B g + 0)), some (.ref (fc_sK g j)), some (.int (nI i))] [] (fc_re (bI (isWd b s n q.2.2.2)) (cl M S U)) := by
  intro k
  induction k with
  | zero => intro i h1 h2 hP; omega
  | succ k ih =>
    intro i h1 h2 hP
    have ht4 := hT.2.1
    refine x_iload_n dX0_spells_20 rfl ?_
    refine x_aload_n dX0_spells_21 rfl ?_
    refine x_O0e dX0_spells_22 kG_X0_J0_length kP_J0_length (fun U h => (h.2.2.2.1 j q hj).2.1) (by omega) (by decide) (Nat.le_of_ble_eq_true rfl) (c_length hj) ?_
    refine x_icmpN_ge (tgt := 54) dX0_spells_25 (by decide) (by omega) (by omega) (fun hc25 => ?_) (fun hc25 => ?_)
    · refine x_ic1 dX0_spells_54 ?_
      obtain rfl : i = q.2.2.2.length := by omega
      exact x_iret dX0_spells_55 rfl (by rfl) (fc_re.of2 (bI_t ⟨hn, hP⟩).symm rfl)
    · refine x_aload_n dX0_spells_28 rfl ?_
      refine x_aload_n dX0_spells_29 rfl ?_
      refine q_geti 0 8 dX0_spells_30 (C := RX0) (T := TX0) (N := 30) rfl (by decide) q403 (show 0 < fc_nx M by have := hF.1; omega) (hF.2.2 0 _ rfl) rfl rfl ?_
      refine x_top h8 ?_
      refine x_iload_n dX0_spells_33 rfl ?_
      refine x_iaddN dX0_spells_34 ?_
      refine k_V1iF hF dX0_spells_35 kG_X0_X0_raw kP_X0_raw rfl (by omega) (by decide) (Nat.le_of_ble_eq_true rfl) (d_raw hF hT (by omega)) ?_
      refine x_aload_n dX0_spells_38 rfl ?_
      refine x_iload_n dX0_spells_39 rfl ?_
      refine x_O1e dX0_spells_40 kG_X0_J0_charAt kP_J0_charAt (fun U h => (h.2.2.2.1 j q hj).2.1) (by omega) (by decide) (Nat.le_of_ble_eq_true rfl) (c_charAt (x := q.2.2.2.getD i 0) hj hc25 hN rfl (hb i hc25).1 (hb i hc25).2) ?_
      refine x_icmp_eq (tgt := 48) dX0_spells_43 (by decide) (fun hc43 => ?_) (fun hc43 => ?_)
      · refine x_iincN (n := 1) dX0_spells_48 (by decide) rfl (by decide) rfl ?_
        refine x_goto (tgt := 20) dX0_spells_51 (by decide) ?_
        refine ih (i + 1) (by omega) (by omega) (fun m hm => ?_)
        rcases Nat.lt_or_ge m i with z | z
        · exact hP m z
        · obtain rfl : m = i := by omega
          exact (if_pos (show s + m < t by omega)).symm.trans hc43
      · refine x_ic0 dX0_spells_46 ?_
        refine x_iret dX0_spells_47 rfl (by rfl) (fc_re.of2 (bI_f (fun z => ?_)).symm rfl)
        exact hc43 ((if_pos (show s + i < t by omega)).trans (z.2 i hc25))
set_option maxHeartbeats 1000000 in
theorem d_spells (hF : LF g M) (hT : tpR S b t) {j : Nat} {q : String × Nat × String × List Int32} (hj : fcStr[j]? = some q) {s n : Nat} (h8 : S 0 8 = nI s) (h7 : S 0 7 = nI (s + n)) (hl : s + n ≤ t) : fc_CX g l yX0_spells cX0_spells 3 (some .boolean) 5 [.ref (fc_B g + 0), .ref (fc_sK g j)] (cl M S U) (fc_re (bI (isWd b s n q.2.2.2)) (cl M S U)) := by
  refine fc_enter (by decide) (Nat.le_of_ble_eq_true rfl) rfl ?_
  obtain ⟨hN, hb⟩ := fc_chr hj
  have ht4 := hT.2.1
  refine x_aload_n dX0_spells_0 rfl ?_
  refine x_O0e dX0_spells_1 kG_X0_J0_length kP_J0_length (fun U h => (h.2.2.2.1 j q hj).2.1) (by omega) (by decide) (Nat.le_of_ble_eq_true rfl) (c_length hj) ?_
  refine x_aload_n dX0_spells_4 rfl ?_
  refine q_geti 0 7 dX0_spells_5 (C := RX0) (T := TX0) (N := 30) rfl (by decide) q402 (show 0 < fc_nx M by have := hF.1; omega) (hF.2.2 0 _ rfl) rfl rfl ?_
  refine x_top h7 ?_
  refine x_aload_n dX0_spells_8 rfl ?_
  refine q_geti 0 8 dX0_spells_9 (C := RX0) (T := TX0) (N := 30) rfl (by decide) q403 (show 0 < fc_nx M by have := hF.1; omega) (hF.2.2 0 _ rfl) rfl rfl ?_
  refine x_top h8 ?_
  refine x_isubN dX0_spells_12 (by omega) ?_
  refine x_top (show nI (s + n - s) = nI n by rw [Nat.add_sub_cancel_left]) ?_
  refine x_icmpN_eq (tgt := 18) dX0_spells_13 (by decide) (by omega) (by omega) (fun hc13 => ?_) (fun hc13 => ?_)
  · refine x_ic0 dX0_spells_18 ?_
    refine x_istore_n dX0_spells_19 (by decide) rfl ?_
    exact m_spells hF hT hj h8 h7 hl hc13.symm hN hb (q.2.2.2.length + 1) 0 (by omega) (by omega) (fun m hm => absurd hm (by omega))
  · refine x_ic0 dX0_spells_16 ?_
    refine x_iret dX0_spells_17 rfl (by rfl) (fc_re.of2 (bI_f (fun z => ?_)).symm rfl)
    exact hc13 z.1.symm
def wsB (j : Nat) : List Int32 := match fcStr[j]? with
  | some q => q.2.2.2
  | none => []
theorem wsB_of {j : Nat} (hj : j < 37) : ∃ q, fcStr[j]? = some q ∧ q.2.2.2 = wsB j := by
  have h : j < fcStr.length := hj
  refine ⟨fcStr[j], List.getElem?_eq_getElem h, ?_⟩
  rw [wsB, List.getElem?_eq_getElem h]
def woF (b : Nat → Int32) (s n : Nat) (ix : Nat → Nat) (N : Nat) : Nat → Nat → Int32
  | 0, _ => -1
  | k + 1, i => if i < N then (if isWd b s n (wsB (ix i)) then nI i else woF b s n ix N k (i + 1)) else -1
/-- where a token stands: its kind κ, from s to s + n -/
abbrev tkA (g : fc_G) (M : fc_M) (S : tT) (t κ s n : Nat) : Prop := fc_ct M 0 6 = .ref (fc_tk g κ) ∧ κ < 5 ∧ S 0 8 = nI s ∧ S 0 7 = nI (s + n) ∧ s + n ≤ t
theorem d_spells2 (hF : LF g M) (hT : tpR S b t) {j : Nat} (hj : j < 37) {κ s n : Nat} (hA : tkA g M S t κ s n) : fc_CX g l yX0_spells cX0_spells 3 (some .boolean) 5 [.ref (fc_B g + 0), .ref (fc_sK g j)] (cl M S U) (fc_re (bI (isWd b s n (wsB j))) (cl M S U)) := by
  obtain ⟨q, h1, h2⟩ := wsB_of hj
  rw [← h2]
  exact d_spells hF hT h1 hA.2.2.1 hA.2.2.2.1 hA.2.2.2.2
theorem kG_X0_X0_spells : GoodIn lw_all (wsV RX0 168 RX0 yX0_spells (ws_ yX0_spells cX0_spells 3 (some .boolean))) := lw_V q534 q536 qs5 q118 q537
theorem kP_X0_spells : kPar yX0_spells 1 := by decide +kernel
set_option maxHeartbeats 1000000 in
theorem m_wordOf {n0 s0 : Nat} (hF : LF g M) (hT : tpR S b t) {κ s n : Nat} (hA : tkA g M S t κ s n) {r N : Nat} {ix : Nat → Nat} (hr1 : r < fc_nx M) (hr2 : fc_sh M r = .inr (.object "java/lang/String", N)) (hN : N < 100) (hr3 : ∀ i, i < N → ix i < 37 ∧ fc_ct M r i = .ref (fc_sK g (ix i))) : ∀ (k i : Nat), i ≤ N → N < i + k → fc_X g l yX0_wordOf cX0_wordOf 3 (some .int) 6 n0 s0 (cl M S U) 2 [some (.ref (fc_B g + 0)), some (.ref (fc_B g + r)), some (.int (nI i))] [] (fc_re (if κ = 2 then woF b s n ix N k i else -1) (cl M S U)) := by
  intro k
  induction k with
  | zero => intro i h1 h2; omega
  | succ k ih =>
    intro i h1 h2
    have ht4 := hT.2.1
    refine x_iload_n dX0_wordOf_2 rfl ?_
    refine x_aload_n dX0_wordOf_3 rfl ?_
    refine x_alen dX0_wordOf_4 hr1 hr2 ?_
    refine x_icmpN_ge (tgt := 36) dX0_wordOf_5 (by decide) (by omega) (by omega) (fun hc5 => ?_) (fun hc5 => ?_)
    · refine x_icm1 dX0_wordOf_36 ?_
      rw [woF, if_neg (Nat.not_lt.mpr hc5)]
      exact x_iret dX0_wordOf_37 rfl rfl (fc_re.of2 (by split <;> rfl) rfl)
    · refine x_aload_n dX0_wordOf_8 rfl ?_
      refine q_getr 0 6 dX0_wordOf_9 (C := RX0) (T := TX0) (N := 30) rfl (by decide) q401 (show 0 < fc_nx M by have := hF.1; omega) (hF.2.2 0 _ rfl) rfl hA.1 ?_
      refine x_tok 2 dX0_wordOf_12 (by decide) rfl q528 ?_
      refine x_acmpT_ne (tgt := 36) dX0_wordOf_15 (by decide) hA.2.1 (by decide) (fun hk => ?_) (fun hk => ?_)
      · refine x_icm1 dX0_wordOf_36 ?_
        rw [if_neg hk]
        exact x_iret dX0_wordOf_37 rfl rfl fc_re.of
      · refine x_aload_n dX0_wordOf_18 rfl ?_
        refine x_aload_n dX0_wordOf_19 rfl ?_
        refine x_iload_n dX0_wordOf_20 rfl ?_
        obtain ⟨hJ, hr⟩ := hr3 i hc5
        refine x_aald dX0_wordOf_21 hr1 hr2 rfl (by omega) hc5 ((cl_r (by rw [hr2]; rfl)).trans hr) ?_
        refine k_V1iF hF dX0_wordOf_22 kG_X0_X0_spells kP_X0_spells rfl (by omega) (by decide) (Nat.le_of_ble_eq_true rfl) (d_spells2 hF hT hJ hA) ?_
        refine x_ifB_eq (tgt := 30) dX0_wordOf_25 (by decide) (fun hc25 => ?_) (fun hc25 => ?_)
        · refine x_iincN (n := 1) dX0_wordOf_30 (by decide) rfl (by decide) rfl ?_
          refine x_goto (tgt := 2) dX0_wordOf_33 (by decide) ?_
          rw [woF, if_pos hc5, if_neg hc25]
          exact ih (i + 1) (by omega) (by omega)
        · refine x_iload_n dX0_wordOf_28 rfl ?_
          rw [woF, if_pos hc5, if_pos hc25, if_pos hk]
          exact x_iret dX0_wordOf_29 rfl rfl fc_re.of
set_option maxHeartbeats 1000000 in
theorem d_wordOf (hF : LF g M) (hT : tpR S b t) {κ s n : Nat} (hA : tkA g M S t κ s n) {r N : Nat} {ix : Nat → Nat} (hr1 : r < fc_nx M) (hr2 : fc_sh M r = .inr (.object "java/lang/String", N)) (hN : N < 100) (hr3 : ∀ i, i < N → ix i < 37 ∧ fc_ct M r i = .ref (fc_sK g (ix i))) : fc_CX g l yX0_wordOf cX0_wordOf 3 (some .int) 6 [.ref (fc_B g + 0), .ref (fc_B g + r)] (cl M S U) (fc_re (if κ = 2 then woF b s n ix N (N + 1) 0 else -1) (cl M S U)) := by
  refine fc_enter (by decide) (Nat.le_of_ble_eq_true rfl) rfl ?_
  refine x_ic0 dX0_wordOf_0 ?_
  refine x_istore_n dX0_wordOf_1 (by decide) rfl ?_
  exact m_wordOf hF hT hA hr1 hr2 hN hr3 (N + 1) 0 (by omega) (by omega)
set_option maxHeartbeats 1000000 in
theorem d_isWord (hF : LF g M) (hT : tpR S b t) {κ s n : Nat} (hA : tkA g M S t κ s n) {j : Nat} (hJ : j < 37) : fc_CX g l yX0_isWord cX0_isWord 2 (some .boolean) 6 [.ref (fc_B g + 0), .ref (fc_sK g j)] (cl M S U) (fc_re (bI (κ = 2 ∧ isWd b s n (wsB j))) (cl M S U)) := by
  refine fc_enter (by decide) (Nat.le_of_ble_eq_true rfl) rfl ?_
  refine x_aload_n dX0_isWord_0 rfl ?_
  refine q_getr 0 6 dX0_isWord_1 (C := RX0) (T := TX0) (N := 30) rfl (by decide) q401 (show 0 < fc_nx M by have := hF.1; omega) (hF.2.2 0 _ rfl) rfl hA.1 ?_
  refine x_tok 2 dX0_isWord_4 (by decide) rfl q528 ?_
  refine x_acmpT_ne (tgt := 22) dX0_isWord_7 (by decide) hA.2.1 (by decide) (fun hk => ?_) (fun hk => ?_)
  · refine x_ic0 dX0_isWord_22 ?_
    exact x_iret dX0_isWord_23 rfl (by rfl) (fc_re.of2 (bI_f (fun z => hk z.1)).symm rfl)
  · refine x_aload_n dX0_isWord_10 rfl ?_
    refine x_aload_n dX0_isWord_11 rfl ?_
    refine k_V1iF hF dX0_isWord_12 kG_X0_X0_spells kP_X0_spells rfl (by omega) (by decide) (Nat.le_of_ble_eq_true rfl) (d_spells2 hF hT hJ hA) ?_
    refine x_ifB_eq (tgt := 22) dX0_isWord_15 (by decide) (fun hc15 => ?_) (fun hc15 => ?_)
    · refine x_ic0 dX0_isWord_22 ?_
      exact x_iret dX0_isWord_23 rfl (by rfl) (fc_re.of2 (bI_f (fun z => hc15 z.2)).symm rfl)
    · refine x_ic1 dX0_isWord_18 ?_
      refine x_goto (tgt := 23) dX0_isWord_19 (by decide) ?_
      exact x_iret dX0_isWord_23 rfl (by rfl) (fc_re.of2 (bI_t ⟨hk, hc15⟩).symm rfl)
set_option maxHeartbeats 1000000 in
theorem d_isSign (hF : LF g M) {κ s n : Nat} (hA : tkA g M S t κ s n) {x : Int32} : fc_CX g l yX0_isSign cX0_isSign 2 (some .boolean) 1 [.ref (fc_B g + 0), .int x] (cl M S U) (fc_re (bI (κ = 4 ∧ S 0 9 = x)) (cl M S U)) := by
  refine fc_enter (by decide) (Nat.le_of_ble_eq_true rfl) rfl ?_
  refine x_aload_n dX0_isSign_0 rfl ?_
  refine q_getr 0 6 dX0_isSign_1 (C := RX0) (T := TX0) (N := 30) rfl (by decide) q401 (show 0 < fc_nx M by have := hF.1; omega) (hF.2.2 0 _ rfl) rfl hA.1 ?_
  refine x_tok 4 dX0_isSign_4 (by decide) rfl q653 ?_
  refine x_acmpT_ne (tgt := 22) dX0_isSign_7 (by decide) hA.2.1 (by decide) (fun hk => ?_) (fun hk => ?_)
  · refine x_ic0 dX0_isSign_22 ?_
    exact x_iret dX0_isSign_23 rfl (by rfl) (fc_re.of2 (bI_f (fun z => hk z.1)).symm rfl)
  · refine x_aload_n dX0_isSign_10 rfl ?_
    refine q_geti 0 9 dX0_isSign_11 (C := RX0) (T := TX0) (N := 30) rfl (by decide) q404 (show 0 < fc_nx M by have := hF.1; omega) (hF.2.2 0 _ rfl) rfl rfl ?_
    refine x_iload_n dX0_isSign_14 rfl ?_
    refine x_icmp_ne (tgt := 22) dX0_isSign_15 (by decide) (fun hc15 => ?_) (fun hc15 => ?_)
    · refine x_ic0 dX0_isSign_22 ?_
      exact x_iret dX0_isSign_23 rfl (by rfl) (fc_re.of2 (bI_f (fun z => hc15 z.2)).symm rfl)
    · refine x_ic1 dX0_isSign_18 ?_
      refine x_goto (tgt := 23) dX0_isSign_19 (by decide) ?_
      exact x_iret dX0_isSign_23 rfl (by rfl) (fc_re.of2 (bI_t ⟨hk, hc15⟩).symm rfl)
end T99ZZA

set_option maxRecDepth 100000
section T99ZZ
variable {g : fc_G} {l : Launch} {M : fc_M} {S : tT} {U : tU}
def bN (x : Int32) : Int32 := x.toInt8.toInt32
theorem bN_bN {x : Int32} : bN (bN x) = bN x := by simp [bN]
theorem bN_and {x : Int32} : bN x &&& nI 255 = x &&& nI 255 := by
  have h : ∀ b : BitVec 32, (BitVec.signExtend 32 (BitVec.signExtend 8 b)) &&& 255#32 = b &&& 255#32 := by
    intro b
    rw [BitVec.signExtend_eq_setWidth_of_le b (by decide : 8 ≤ 32)]
    apply BitVec.eq_of_getLsbD_eq
    intro i hi
    rw [BitVec.getLsbD_and, BitVec.getLsbD_and]
    by_cases c : i < 8
    · rw [BitVec.getLsbD_signExtend]
      simp [c, hi]
    · have e : ∀ i, i < 32 → 8 ≤ i → (255#32).getLsbD i = false := by decide
      rw [e i hi (by omega), Bool.and_false, Bool.and_false]
  apply Int32.toBitVec_inj.mp
  have e := h x.toBitVec
  simp only [bN, Int32.toBitVec_and, Int8.toBitVec_toInt32, Int32.toBitVec_toInt8]
  exact e
theorem x_i2b {y : MethodName} {cc : ByteArray} {nL : Nat} {ret : Option FieldType} {d n0 s0 : Nat} {pc : Nat} {L : List (Option Value)} {st : List Value} {Q : Outcome → fc_M → Prop} {x : Int32} (hd : decode cc pc = .ok (.i2b, 1)) (k : fc_X g l y cc nL ret d n0 s0 M (pc + 1) L (.int (bN x) :: st) Q) : fc_X g l y cc nL ret d n0 s0 M pc L (.int x :: st) Q :=
  fc_go (fun R p e s m args below meth c H ls locs cells slots Qs Mf hSt hR hS hL k => lv_i2b hSt.1 hSt.2.1 hd rfl k) k
/-- the tape and how much of it -/
def ftS (S : tT) (C : Nat → Int32) (v : Int32) : tT := fun a k => if a = 1 then C k else if a = 0 ∧ k = 1 then v else S a k
theorem ftS_c {C : Nat → Int32} {v x : Int32} {i : Nat} : tu (ftS S C v) 1 i x = ftS S (up C i x) v := by
  funext a k
  by_cases h : a = 1
  · subst h
    simp [tu, ftS, up]
  · simp [tu, ftS, h]
theorem ftS_n {C : Nat → Int32} {v x : Int32} : tu (ftS S C v) 0 1 x = ftS S C x := by
  funext a k
  by_cases h : a = 1
  · subst h
    simp [tu, ftS]
  · by_cases h2 : a = 0 ∧ k = 1
    · simp [tu, ftS, h2]
    · simp [tu, ftS, h, h2]
theorem ftS_self : ftS S (S 1) (S 0 1) = S := by
  funext a k
  by_cases h : a = 1
  · subst h
    simp [ftS]
  · by_cases h2 : a = 0 ∧ k = 1
    · obtain ⟨rfl, rfl⟩ := h2
      simp [ftS]
    · simp [ftS, h, h2]
def ptL (v : Int32) (t : Nat) : Nat → Nat → (Nat → Int32) → (Nat → Int32)
  | 0, _, C => C
  | k + 1, i, C => if i < 4 then ptL v t k (i + 1) (up C (t + i) (bN (v >>> (nI (24 - 8 * i) &&& 31)))) else C
def zI (i : Nat) : Int32 := if i < 4 then nI (24 - 8 * i) else -8
theorem zI_s {i : Nat} (h : i < 4) : nI (24 - 8 * i) + Int32.ofInt (-8) = zI (i + 1) := by
  rcases (show i = 0 ∨ i = 1 ∨ i = 2 ∨ i = 3 by omega) with rfl | rfl | rfl | rfl <;> decide
theorem q_bast {y : MethodName} {cc : ByteArray} {nL : Nat} {ret : Option FieldType} {d n0 s0 : Nat} {pc : Nat} {L : List (Option Value)} {st : List Value} {Q : Outcome → fc_M → Prop} {a n i : Nat} {x : Int32} (hd : decode cc pc = .ok (.bastore, 1)) (ha : a < fc_nx M) (hs : fc_sh M a = .inr (.byte, n)) (hn : n < 2 ^ 31) (hi : i < n) (kk : fc_X g l y cc nL ret d n0 s0 (cl M (tu S a i (bN x)) U) (pc + 1) L st Q) : fc_X g l y cc nL ret d n0 s0 (cl M S U) pc L (.int x :: .int (nI i) :: .ref (fc_B g + a) :: st) Q := by
  refine x_bast hd ha hs hn hi ?_
  rw [show narrow .byte (.int x) = .int (bN x) from rfl, cl_puti (by rw [hs]; rfl)]
  exact kk
set_option maxHeartbeats 1000000 in
theorem m_puts {n0 s0 : Nat} (hF : LF g M) {v : Int32} {t : Nat} (ht : t + 4 ≤ 400) : ∀ (k i : Nat) (C : Nat → Int32), i ≤ 4 → 4 < i + k → fc_X g l yX0_puts cX0_puts 3 (none) 1 n0 s0 (cl M (ftS S C (nI (t + i))) U) 3 [some (.ref (fc_B g + 0)), some (.int v), some (.int (zI i))] [] (fc_rn (cl M (ftS S (ptL v t k i C) (nI (t + 4))) U)) := by
  intro k
  induction k with
  | zero => intro i C h1 h2; omega
  | succ k ih =>
    intro i C h1 h2
    rcases Nat.lt_or_ge i 4 with hi | hi
    · rw [zI, if_pos hi]
      refine x_iload_n dX0_puts_3 rfl ?_
      refine x_ifN_lt (tgt := 36) dX0_puts_4 (by decide) (by omega) ?_
      refine x_aload_n dX0_puts_7 rfl ?_
      refine q_getr 0 0 dX0_puts_8 (C := RX0) (T := TX0) (N := 30) rfl (by decide) q395 (show 0 < fc_nx M by have := hF.1; omega) (hF.2.2 0 _ rfl) rfl (hF.2.1 0 _ rfl) ?_
      refine x_aload_n dX0_puts_11 rfl ?_
      refine q_geti 0 1 dX0_puts_12 (C := RX0) (T := TX0) (N := 30) rfl (by decide) q396 (show 0 < fc_nx M by have := hF.1; omega) (hF.2.2 0 _ rfl) rfl rfl ?_
      refine x_top (rfl : ftS _ _ _ 0 1 = nI (t + i)) ?_
      refine x_iload_n dX0_puts_15 rfl ?_
      refine x_iload_n dX0_puts_16 rfl ?_
      refine x_ishr dX0_puts_17 ?_
      refine x_i2b dX0_puts_18 ?_
      refine q_bast dX0_puts_19 (show 1 < fc_nx M by have := hF.1; omega) (hF.2.2 1 _ rfl) (by decide) (by omega) ?_
      rw [bN_bN, ftS_c]
      refine x_aload_n dX0_puts_20 rfl ?_
      refine x_dup dX0_puts_21 rfl ?_
      refine q_geti 0 1 dX0_puts_22 (C := RX0) (T := TX0) (N := 30) rfl (by decide) q396 (show 0 < fc_nx M by have := hF.1; omega) (hF.2.2 0 _ rfl) rfl rfl ?_
      refine x_top (rfl : ftS _ _ _ 0 1 = nI (t + i)) ?_
      refine x_ic1 dX0_puts_25 ?_
      refine x_iaddN dX0_puts_26 ?_
      refine q_puti 0 1 dX0_puts_27 (C := RX0) (T := TX0) (N := 30) rfl (by decide) q396 rfl rfl rfl (show 0 < fc_nx M by have := hF.1; omega) (hF.2.2 0 _ rfl) rfl ?_
      rw [ftS_n]
      refine x_iinc dX0_puts_30 rfl rfl (by decide) rfl ?_
      refine x_goto (tgt := 3) dX0_puts_33 (by decide) ?_
      rw [zI_s hi, ptL, if_pos hi]
      exact ih (i + 1) _ (by omega) (by omega)
    · rw [zI, if_neg (by omega)]
      refine x_iload_n dX0_puts_3 rfl ?_
      refine x_if_lt (tgt := 36) dX0_puts_4 (by decide) (fun hc4 => ?_) (fun hc4 => ?_)
      · obtain rfl : i = 4 := by omega
        rw [ptL, if_neg (by omega)]
        exact x_vret dX0_puts_36 rfl fc_rn.of
      · exact absurd (by decide : (-8 : Int32) < 0) hc4
set_option maxHeartbeats 1000000 in
theorem d_puts (hF : LF g M) {v : Int32} {t : Nat} {C : Nat → Int32} (ht : t + 4 ≤ 400) : fc_CX g l yX0_puts cX0_puts 3 (none) 1 [.ref (fc_B g + 0), .int v] (cl M (ftS S C (nI t)) U) (fc_rn (cl M (ftS S (ptL v t 5 0 C) (nI (t + 4))) U)) := by
  refine fc_enter (by decide) (Nat.le_of_ble_eq_true rfl) rfl ?_
  refine x_bipush (v := nI 24) dX0_puts_0 (by decide) ?_
  refine x_istore_n dX0_puts_2 (by decide) rfl ?_
  exact m_puts hF ht 5 0 C (by omega) (by omega)
def feC (t : Nat) (a b c d e : Int32) (C : Nat → Int32) : Nat → Int32 := ptL e (t + 4 + 4 + 4 + 4) 5 0 (ptL d (t + 4 + 4 + 4) 5 0 (ptL c (t + 4 + 4) 5 0 (ptL b (t + 4) 5 0 (ptL a t 5 0 C))))
def feK (S : tT) (t : Nat) (a b c d e : Int32) : Int32 × tT := if t + 20 ≤ 400 then (nI (t + 20), ftS S (feC t a b c d e (S 1)) (nI (t + 20))) else (-1, S)
theorem kG_X0_X0_puts : GoodIn lw_all (wsV RX0 133 RX0 yX0_puts (ws_ yX0_puts cX0_puts 3 (none))) := lw_V q493 q495 qs0 q118 q496
theorem kP_X0_puts : kPar yX0_puts 1 := by decide +kernel
set_option maxHeartbeats 1000000 in
theorem d_feed (hF : LF g M) {t : Nat} (ht4 : t ≤ 400) (ht : S 0 1 = nI t) {a b c d e : Int32} : fc_CX g l yX0_feed cX0_feed 6 (some .int) 2 [.ref (fc_B g + 0), .int a, .int b, .int c, .int d, .int e] (cl M S U) (fc_re (feK S t a b c d e).1 (cl M (feK S t a b c d e).2 U)) := by
  refine fc_enter (by decide) (Nat.le_of_ble_eq_true rfl) rfl ?_
  refine x_eqM (congrArg (fun z => cl M z U) (ftS_self (S := S)).symm) ?_
  rw [ht]
  refine x_aload_n dX0_feed_0 rfl ?_
  refine q_geti 0 1 dX0_feed_1 (C := RX0) (T := TX0) (N := 30) rfl (by decide) q396 (show 0 < fc_nx M by have := hF.1; omega) (hF.2.2 0 _ rfl) rfl rfl ?_
  refine x_top (rfl : ftS _ _ _ 0 1 = nI t) ?_
  refine x_bipush (v := nI 20) dX0_feed_4 (by decide) ?_
  refine x_iaddN dX0_feed_6 ?_
  refine x_sipush (v := nI 400) dX0_feed_7 (by decide) ?_
  refine x_icmpN_le (tgt := 15) dX0_feed_10 (by decide) (by omega) (by omega) (fun hc10 => ?_) (fun hc10 => ?_)
  · refine x_aload_n dX0_feed_15 rfl ?_
    refine x_iload_n dX0_feed_16 rfl ?_
    refine k_V1vF hF dX0_feed_17 kG_X0_X0_puts kP_X0_puts rfl (by omega) (by decide) (Nat.le_of_ble_eq_true rfl) (d_puts hF (by omega)) ?_
    refine x_aload_n dX0_feed_20 rfl ?_
    refine x_iload_n dX0_feed_21 rfl ?_
    refine k_V1vF hF dX0_feed_22 kG_X0_X0_puts kP_X0_puts rfl (by omega) (by decide) (Nat.le_of_ble_eq_true rfl) (d_puts hF (by omega)) ?_
    refine x_aload_n dX0_feed_25 rfl ?_
    refine x_iload_n dX0_feed_26 rfl ?_
    refine k_V1vF hF dX0_feed_27 kG_X0_X0_puts kP_X0_puts rfl (by omega) (by decide) (Nat.le_of_ble_eq_true rfl) (d_puts hF (by omega)) ?_
    refine x_aload_n dX0_feed_30 rfl ?_
    refine x_iload dX0_feed_31 rfl ?_
    refine k_V1vF hF dX0_feed_33 kG_X0_X0_puts kP_X0_puts rfl (by omega) (by decide) (Nat.le_of_ble_eq_true rfl) (d_puts hF (by omega)) ?_
    refine x_aload_n dX0_feed_36 rfl ?_
    refine x_iload dX0_feed_37 rfl ?_
    refine k_V1vF hF dX0_feed_39 kG_X0_X0_puts kP_X0_puts rfl (by omega) (by decide) (Nat.le_of_ble_eq_true rfl) (d_puts hF (by omega)) ?_
    refine x_aload_n dX0_feed_42 rfl ?_
    refine q_geti 0 1 dX0_feed_43 (C := RX0) (T := TX0) (N := 30) rfl (by decide) q396 (show 0 < fc_nx M by have := hF.1; omega) (hF.2.2 0 _ rfl) rfl rfl ?_
    refine x_top (rfl : ftS _ _ _ 0 1 = nI (t + 4 + 4 + 4 + 4 + 4)) ?_
    rw [feK, if_pos hc10]
    exact x_iret dX0_feed_46 rfl rfl fc_re.of
  · refine x_icm1 dX0_feed_13 ?_
    rw [feK, if_neg (by omega)]
    rw [← ht, ftS_self]
    exact x_iret dX0_feed_14 rfl rfl fc_re.of
theorem ptL_at {v : Int32} {t : Nat} : ∀ (k i : Nat) (C : Nat → Int32) (j : Nat), 4 < i + k → ptL v t k i C j = if t + i ≤ j ∧ j < t + 4 then bN (v >>> (nI (24 - 8 * (j - t)) &&& 31)) else C j
  | 0, i, C, j, h => by rw [ptL, if_neg (by omega)]
  | k + 1, i, C, j, h => by
    by_cases c1 : i < 4
    · rw [ptL, if_pos c1, ptL_at k (i + 1) _ j (by omega)]
      by_cases c2 : j = t + i
      · subst c2
        rw [if_neg (by omega), if_pos (by omega), up_s, Nat.add_sub_cancel_left]
      · rw [up_n c2]
        by_cases c3 : t + (i + 1) ≤ j ∧ j < t + 4
        · rw [if_pos c3, if_pos (by omega)]
        · rw [if_neg c3, if_neg (by omega)]
    · rw [ptL, if_neg c1, if_neg (by omega)]
theorem feL_at {a b c d e : Int32} {t : Nat} : ∀ (k i : Nat) (C : Nat → Int32) (j : Nat), 20 < i + k → feL a b c d e t k i C j = if t + i ≤ j ∧ j < t + 20 then feB (feV a b c d e (j - t)) (j - t) else C j
  | 0, i, C, j, h => by rw [feL, if_neg (by omega)]
  | k + 1, i, C, j, h => by
    by_cases c1 : i < 20
    · rw [feL, if_pos c1, feL_at k (i + 1) _ j (by omega)]
      by_cases c2 : j = t + i
      · subst c2
        rw [if_neg (by omega), if_pos (by omega), up_s, Nat.add_sub_cancel_left]
      · rw [up_n c2]
        by_cases c3 : t + (i + 1) ≤ j ∧ j < t + 20
        · rw [if_pos c3, if_pos (by omega)]
        · rw [if_neg c3, if_neg (by omega)]
    · rw [feL, if_neg c1, if_neg (by omega)]
theorem fe_rel {a b c d e : Int32} {t : Nat} {C D : Nat → Int32} (h : ∀ j, C j &&& nI 255 = D j) (j : Nat) : feC t a b c d e C j &&& nI 255 = feL a b c d e t 21 0 D j := by
  rw [feL_at 21 0 D j (by omega), feC, ptL_at 5 0 _ j (by omega), ptL_at 5 0 _ j (by omega), ptL_at 5 0 _ j (by omega), ptL_at 5 0 _ j (by omega), ptL_at 5 0 _ j (by omega)]
  have hB : ∀ (x : Int32) (z : Nat), bN (x >>> (nI (24 - 8 * z) &&& 31)) &&& nI 255 = (x >>> (nI (24 - 8 * z) &&& 31)) &&& nI 255 := fun x z => bN_and
  by_cases c0 : t ≤ j ∧ j < t + 20
  · rw [if_pos (show t + 0 ≤ j ∧ j < t + 20 by omega), feB, feV]
    by_cases c4 : t + 16 ≤ j
    · rw [if_pos (show t + 4 + 4 + 4 + 4 + 0 ≤ j ∧ j < t + 4 + 4 + 4 + 4 + 4 by omega), hB, if_neg (show ¬ j - t < 4 by omega), if_neg (show ¬ j - t < 8 by omega), if_neg (show ¬ j - t < 12 by omega), if_neg (show ¬ j - t < 16 by omega), show j - (t + 4 + 4 + 4 + 4) = (j - t) % 4 by omega]
    · rw [if_neg (show ¬ (t + 4 + 4 + 4 + 4 + 0 ≤ j ∧ j < t + 4 + 4 + 4 + 4 + 4) by omega)]
      by_cases c3 : t + 12 ≤ j
      · rw [if_pos (show t + 4 + 4 + 4 + 0 ≤ j ∧ j < t + 4 + 4 + 4 + 4 by omega), hB, if_neg (show ¬ j - t < 4 by omega), if_neg (show ¬ j - t < 8 by omega), if_neg (show ¬ j - t < 12 by omega), if_pos (show j - t < 16 by omega), show j - (t + 4 + 4 + 4) = (j - t) % 4 by omega]
      · rw [if_neg (show ¬ (t + 4 + 4 + 4 + 0 ≤ j ∧ j < t + 4 + 4 + 4 + 4) by omega)]
        by_cases c2 : t + 8 ≤ j
        · rw [if_pos (show t + 4 + 4 + 0 ≤ j ∧ j < t + 4 + 4 + 4 by omega), hB, if_neg (show ¬ j - t < 4 by omega), if_neg (show ¬ j - t < 8 by omega), if_pos (show j - t < 12 by omega), show j - (t + 4 + 4) = (j - t) % 4 by omega]
        · rw [if_neg (show ¬ (t + 4 + 4 + 0 ≤ j ∧ j < t + 4 + 4 + 4) by omega)]
          by_cases c1 : t + 4 ≤ j
          · rw [if_pos (show t + 4 + 0 ≤ j ∧ j < t + 4 + 4 by omega), hB, if_neg (show ¬ j - t < 4 by omega), if_pos (show j - t < 8 by omega), show j - (t + 4) = (j - t) % 4 by omega]
          · rw [if_neg (show ¬ (t + 4 + 0 ≤ j ∧ j < t + 4 + 4) by omega), if_pos (show t + 0 ≤ j ∧ j < t + 4 by omega), hB, if_pos (show j - t < 4 by omega), show j - t = (j - t) % 4 by omega]
            rw [show (j - t) % 4 % 4 = (j - t) % 4 by omega]
  · rw [if_neg (show ¬ (t + 0 ≤ j ∧ j < t + 20) by omega), if_neg (by omega), if_neg (by omega), if_neg (by omega), if_neg (by omega), if_neg (by omega)]
    exact h j
end T99ZZ

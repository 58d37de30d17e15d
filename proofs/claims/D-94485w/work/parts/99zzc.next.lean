set_option maxRecDepth 100000
section T99ZZC
variable {g : fc_G} {l : Launch} {M : fc_M} {S : tT} {U : tU} {b : Nat → Int32} {t : Nat} {wh v0 : Int32}
theorem ct_ps {a k : Nat} {v : Value} : fc_ct (fc_put M a k v) a k = v := if_pos ⟨rfl, rfl⟩
theorem putp {a k : Nat} {x y : Value} : fc_put (fc_put M a k x) a k y = fc_put M a k y := by
  refine Prod.ext rfl (Prod.ext rfl (funext fun c => funext fun j => ?_))
  show (if c = a ∧ j = k then y else if c = a ∧ j = k then x else fc_ct M c j) = (if c = a ∧ j = k then y else fc_ct M c j)
  by_cases h : c = a ∧ j = k
  · rw [if_pos h, if_pos h]
  · rw [if_neg h, if_neg h, if_neg h]
def s3 (S : tT) (x y v : Int32) : tT := fun a k => if a = 0 then (if k = 7 then x else if k = 8 then y else if k = 9 then v else S 0 k) else S a k
theorem s3_7 {x y v u : Int32} : tu (s3 S x y v) 0 7 u = s3 S u y v := by
  funext a k
  by_cases h : a = 0
  · subst h
    by_cases h2 : k = 7 <;> simp [tu, s3, h2]
  · simp [tu, s3, h]
theorem s3_8 {x y v u : Int32} : tu (s3 S x y v) 0 8 u = s3 S x u v := by
  funext a k
  by_cases h : a = 0
  · subst h
    by_cases h2 : k = 8 <;> simp [tu, s3, h2]
  · simp [tu, s3, h]
theorem s3_9 {x y v u : Int32} : tu (s3 S x y v) 0 9 u = s3 S x y u := by
  funext a k
  by_cases h : a = 0
  · subst h
    by_cases h2 : k = 9 <;> simp [tu, s3, h2]
  · simp [tu, s3, h]
theorem s3_self : s3 S (S 0 7) (S 0 8) (S 0 9) = S := by
  funext a k
  by_cases h : a = 0
  · subst h
    simp only [s3, if_true]
    repeat' split
    all_goals (first | rfl | simp_all)
  · simp [s3, h]
theorem tpR_s3 {x y v : Int32} (h : tpR S b t) : tpR (s3 S x y v) b t := ⟨h.1, h.2.1, h.2.2⟩
theorem and255 (x : Int32) : ∃ m, m ≤ 255 ∧ x &&& nI 255 = nI m := by
  obtain ⟨n, rfl⟩ := nI_all x
  refine ⟨n % 256, by omega, ?_⟩
  apply Int32.toBitVec_inj.mp
  have h : ∀ n : Nat, BitVec.ofNat 32 n &&& 255#32 = BitVec.ofNat 32 (n % 256) := by
    intro n
    apply BitVec.eq_of_toNat_eq
    rw [BitVec.toNat_and, BitVec.toNat_ofNat, BitVec.toNat_ofNat, BitVec.toNat_ofNat, show 255 % 2 ^ 32 = 2 ^ 8 - 1 by decide, Nat.and_two_pow_sub_one_eq_mod]
    omega
  exact h n
theorem sq_m (hT : tpR S b t) {k : Nat} (h : ¬ sq b t k = -1) : ∃ m, m ≤ 255 ∧ sq b t k = nI m := by
  have hk := sq_lt h
  obtain ⟨m, h1, h2⟩ := and255 (S 1 k)
  exact ⟨m, h1, (if_pos hk).trans ((hT.2.2 k hk).symm.trans h2)⟩
/-- what a token is, in the class and in the reference -/
def tokR (κ : Nat) (v wh : Int32) (b : Nat → Int32) (q : tTk) : Prop := (κ = 0 ∧ q.2.2.1 = nI 0) ∨ (κ = 1 ∧ q.2.2.1 = nI 1) ∨ (κ = 2 ∧ q.2.2.1 = wdW wh b q.1 (q.2.1 - q.1)) ∨ (κ = 3 ∧ q.2.2.1 = nI 2 ∧ v = q.2.2.2) ∨ (κ = 4 ∧ isSg v ∧ q.2.2.1 = nI 100 + v)
def rn_v (g : fc_G) (M : fc_M) (S : tT) (U : tU) (wh : Int32) (b : Nat → Int32) (q : tTk) : Outcome → fc_M → Prop := fun o M2 => o = .returned none ∧ ∃ κ v, M2 = cl (fc_put M 0 6 (.ref (fc_tk g κ))) (s3 S (nI q.2.1) (nI q.1) v) U ∧ κ < 5 ∧ tokR κ v wh b q
/-- the class's words -/
def asI (k : Nat) : Nat := if k < 9 then 5 + k else 3
abbrev WD (g : fc_G) (M : fc_M) : Prop := (∀ k, k < 2 → fc_ct M 2 k = .ref (fc_sK g k)) ∧ (∀ k, k < 3 → fc_ct M 3 k = .ref (fc_sK g (2 + k))) ∧ (∀ k, k < 10 → fc_ct M 4 k = .ref (fc_sK g (asI k))) ∧ ∀ k, k < 4 → fc_ct M 5 k = .ref (fc_sK g (14 + k))
theorem woF_no {s n N : Nat} {ix : Nat → Nat} (hN : N < 100) : ∀ (k i : Nat), N < i + k → woF b s n ix N k i = -1 → ∀ j, i ≤ j → j < N → ¬ isWd b s n (wsB (ix j))
  | 0, i, h, _, j, h1, h2 => by omega
  | k + 1, i, h, e, j, h1, h2 => by
    rw [woF, if_pos (by omega)] at e
    by_cases c : isWd b s n (wsB (ix i))
    · rw [if_pos c] at e
      exact absurd e (bO_ne (by omega))
    · rw [if_neg c] at e
      by_cases z : i = j
      · subst z; exact c
      · exact woF_no hN k (i + 1) (by omega) e j (by omega) h2
theorem wdW_none {s n : Nat} (h1 : woF b s n (fun k => k) 2 3 0 = -1) (h2 : woF b s n (fun k => 2 + k) 3 4 0 = -1) (h3 : woF b s n asI 10 11 0 = -1) (h4 : woF b s n (fun k => 14 + k) 4 5 0 = -1) : wdW wh b s n = nI 1 := by
  have a1 := woF_no (by decide) 3 0 (by decide) h1
  have a2 := woF_no (by decide) 4 0 (by decide) h2
  have a3 := woF_no (by decide) 11 0 (by decide) h3
  have a4 := woF_no (by decide) 5 0 (by decide) h4
  have b0 : ¬ isWd b s n [99, 111, 115, 116] := a1 0 (by decide) (by decide)
  have b1 : ¬ isWd b s n [110, 101, 118, 101, 114] := a1 1 (by decide) (by decide)
  have b2 : ¬ isWd b s n [102, 108, 111, 111, 114, 115] := a2 0 (by decide) (by decide)
  have b3 : ¬ isWd b s n [99, 97, 114] := a2 1 (by decide) (by decide)
  have b4 : ¬ isWd b s n [115, 107, 105, 112] := a2 2 (by decide) (by decide)
  have b5 : ¬ isWd b s n [102, 97, 114] := a3 0 (by decide) (by decide)
  have b6 : ¬ isWd b s n [115, 97, 109, 101] := a3 1 (by decide) (by decide)
  have b7 : ¬ isWd b s n [97, 103, 97, 105, 110, 115, 116] := a3 2 (by decide) (by decide)
  have b8 : ¬ isWd b s n [108, 111, 97, 100] := a3 3 (by decide) (by decide)
  have b9 : ¬ isWd b s n [103, 105, 118, 101, 110] := a3 4 (by decide) (by decide)
  have b10 : ¬ isWd b s n [105, 100, 108, 101] := a3 5 (by decide) (by decide)
  have b11 : ¬ isWd b s n [117, 112] := a3 6 (by decide) (by decide)
  have b12 : ¬ isWd b s n [102, 108, 111, 111, 114] := a3 7 (by decide) (by decide)
  have b13 : ¬ isWd b s n [119, 97, 105, 116, 115] := a3 8 (by decide) (by decide)
  have b14 : ¬ isWd b s n [119, 104, 101, 110] := a4 0 (by decide) (by decide)
  have b15 : ¬ isWd b s n [111, 114] := a4 1 (by decide) (by decide)
  have b16 : ¬ isWd b s n [97, 110, 100] := a4 2 (by decide) (by decide)
  have b17 : ¬ isWd b s n [110, 111, 116] := a4 3 (by decide) (by decide)
  unfold wdW
  split
  · rw [twW, if_neg b2, if_neg b3, if_neg b4]
  · rw [rwW, if_neg b14, if_neg b15, if_neg b16, if_neg b17, if_neg b0, if_neg b1, nmW, if_neg b5, if_neg b6, if_neg b7, if_neg b8, if_neg b9, if_neg b10, if_neg b11, if_neg b12, if_neg b13, if_neg b3]
set_option maxHeartbeats 1000000 in
theorem m_rn0 {n0 s0 : Nat} (hF : LF g M) (hT : tpR S b t) {T : Value} {y v : Int32} {o1 : Option Value} {Q : Outcome → fc_M → Prop} : ∀ (k a : Nat), a ≤ t → t < a + k → fc_X g l yX0_readNext cX0_readNext 2 (none) 7 n0 s0 (cl (fc_put M 0 6 T) (s3 S (nI (spL b t k a)) y v) U) 39 [some (.ref (fc_B g + 0)), o1] [] (Q) → fc_X g l yX0_readNext cX0_readNext 2 (none) 7 n0 s0 (cl (fc_put M 0 6 T) (s3 S (nI a) y v) U) 0 [some (.ref (fc_B g + 0)), o1] [] (Q) := by
  intro k
  induction k with
  | zero => intro a h1 h2 kk; omega
  | succ k ih =>
    intro a h1 h2 kk
    have ht4 := hT.2.1
    refine x_aload_n dX0_readNext_0 rfl ?_
    refine x_aload_n dX0_readNext_1 rfl ?_
    refine q_geti 0 7 dX0_readNext_2 (C := RX0) (T := TX0) (N := 30) rfl (by decide) q402 (show 0 < fc_nx M by have := hF.1; omega) (hF.2.2 0 _ rfl) rfl rfl ?_
    refine x_top (show s3 _ _ _ _ 0 7 = nI a from rfl) ?_
    refine k_V1iF (LF_p0 rfl hF) dX0_readNext_5 kG_X0_X0_raw kP_X0_raw rfl (by omega) (by decide) (Nat.le_of_ble_eq_true rfl) (d_raw (LF_p0 rfl hF) (tpR_s3 hT) (by omega)) ?_
    refine x_bipush (v := nI 32) dX0_readNext_8 (by decide) ?_
    refine x_icmp_eq (tgt := 26) dX0_readNext_10 (by decide) (fun hc10 => ?_) (fun hc10 => ?_)
    · refine x_aload_n dX0_readNext_26 rfl ?_
      refine x_dup dX0_readNext_27 rfl ?_
      refine q_geti 0 7 dX0_readNext_28 (C := RX0) (T := TX0) (N := 30) rfl (by decide) q402 (show 0 < fc_nx M by have := hF.1; omega) (hF.2.2 0 _ rfl) rfl rfl ?_
      refine x_top (show s3 _ _ _ _ 0 7 = nI a from rfl) ?_
      refine x_ic1 dX0_readNext_31 ?_
      refine x_iaddN dX0_readNext_32 ?_
      refine q_puti 0 7 dX0_readNext_33 (C := RX0) (T := TX0) (N := 30) rfl (by decide) q402 rfl rfl rfl (show 0 < fc_nx M by have := hF.1; omega) (hF.2.2 0 _ rfl) rfl ?_
      rw [s3_7]
      refine x_goto (tgt := 0) dX0_readNext_36 (by decide) ?_
      have hsp : isSp (sq b t a) := Or.inl hc10
      have hlt := sq_lt (isSp_n hsp)
      rw [spL, if_pos hsp] at kk
      exact ih (a + 1) (by omega) (by omega) kk
    · refine x_aload_n dX0_readNext_13 rfl ?_
      refine x_aload_n dX0_readNext_14 rfl ?_
      refine q_geti 0 7 dX0_readNext_15 (C := RX0) (T := TX0) (N := 30) rfl (by decide) q402 (show 0 < fc_nx M by have := hF.1; omega) (hF.2.2 0 _ rfl) rfl rfl ?_
      refine x_top (show s3 _ _ _ _ 0 7 = nI a from rfl) ?_
      refine k_V1iF (LF_p0 rfl hF) dX0_readNext_18 kG_X0_X0_raw kP_X0_raw rfl (by omega) (by decide) (Nat.le_of_ble_eq_true rfl) (d_raw (LF_p0 rfl hF) (tpR_s3 hT) (by omega)) ?_
      refine x_bipush (v := nI 10) dX0_readNext_21 (by decide) ?_
      refine x_icmp_ne (tgt := 39) dX0_readNext_23 (by decide) (fun hc23 => ?_) (fun hc23 => ?_)
      · rw [spL, if_neg (fun z => z.elim hc10 hc23)] at kk
        exact kk
      · refine x_aload_n dX0_readNext_26 rfl ?_
        refine x_dup dX0_readNext_27 rfl ?_
        refine q_geti 0 7 dX0_readNext_28 (C := RX0) (T := TX0) (N := 30) rfl (by decide) q402 (show 0 < fc_nx M by have := hF.1; omega) (hF.2.2 0 _ rfl) rfl rfl ?_
        refine x_top (show s3 _ _ _ _ 0 7 = nI a from rfl) ?_
        refine x_ic1 dX0_readNext_31 ?_
        refine x_iaddN dX0_readNext_32 ?_
        refine q_puti 0 7 dX0_readNext_33 (C := RX0) (T := TX0) (N := 30) rfl (by decide) q402 rfl rfl rfl (show 0 < fc_nx M by have := hF.1; omega) (hF.2.2 0 _ rfl) rfl ?_
        rw [s3_7]
        refine x_goto (tgt := 0) dX0_readNext_36 (by decide) ?_
        have hsp : isSp (sq b t a) := Or.inr hc23
        have hlt := sq_lt (isSp_n hsp)
        rw [spL, if_pos hsp] at kk
        exact ih (a + 1) (by omega) (by omega) kk
theorem kG_X0_X0_isLetter : GoodIn lw_all (va_wsS RX0 184 yX0_isLetter (ws_ yX0_isLetter cX0_isLetter 1 (some .boolean))) := lw_S q525 q526 q118 q527
theorem kP_X0_isLetter : kPar yX0_isLetter 1 := by decide +kernel
set_option maxHeartbeats 1000000 in
theorem m_rn97 {n0 s0 : Nat} (hF : LF g M) (hT : tpR S b t) {T : Value} {y v : Int32} {o1 : Option Value} {Q : Outcome → fc_M → Prop} : ∀ (k a : Nat), a ≤ t → t < a + k → fc_X g l yX0_readNext cX0_readNext 2 (none) 7 n0 s0 (cl (fc_put M 0 6 T) (s3 S (nI (leL b t k a)) y v) U) 124 [some (.ref (fc_B g + 0)), o1] [] (Q) → fc_X g l yX0_readNext cX0_readNext 2 (none) 7 n0 s0 (cl (fc_put M 0 6 T) (s3 S (nI a) y v) U) 97 [some (.ref (fc_B g + 0)), o1] [] (Q) := by
  intro k
  induction k with
  | zero => intro a h1 h2 kk; omega
  | succ k ih =>
    intro a h1 h2 kk
    have ht4 := hT.2.1
    refine x_aload_n dX0_readNext_97 rfl ?_
    refine x_aload_n dX0_readNext_98 rfl ?_
    refine q_geti 0 7 dX0_readNext_99 (C := RX0) (T := TX0) (N := 30) rfl (by decide) q402 (show 0 < fc_nx M by have := hF.1; omega) (hF.2.2 0 _ rfl) rfl rfl ?_
    refine x_top (show s3 _ _ _ _ 0 7 = nI a from rfl) ?_
    refine k_V1iF (LF_p0 rfl hF) dX0_readNext_102 kG_X0_X0_raw kP_X0_raw rfl (by omega) (by decide) (Nat.le_of_ble_eq_true rfl) (d_raw (LF_p0 rfl hF) (tpR_s3 hT) (by omega)) ?_
    refine k_S1i dX0_readNext_105 kG_X0_X0_isLetter kP_X0_isLetter (by omega) (by decide) (Nat.le_of_ble_eq_true rfl) d_isLetter ?_
    refine x_ifB_eq (tgt := 124) dX0_readNext_108 (by decide) (fun hc108 => ?_) (fun hc108 => ?_)
    · rw [leL, if_neg hc108] at kk
      exact kk
    · refine x_aload_n dX0_readNext_111 rfl ?_
      refine x_dup dX0_readNext_112 rfl ?_
      refine q_geti 0 7 dX0_readNext_113 (C := RX0) (T := TX0) (N := 30) rfl (by decide) q402 (show 0 < fc_nx M by have := hF.1; omega) (hF.2.2 0 _ rfl) rfl rfl ?_
      refine x_top (show s3 _ _ _ _ 0 7 = nI a from rfl) ?_
      refine x_ic1 dX0_readNext_116 ?_
      refine x_iaddN dX0_readNext_117 ?_
      refine q_puti 0 7 dX0_readNext_118 (C := RX0) (T := TX0) (N := 30) rfl (by decide) q402 rfl rfl rfl (show 0 < fc_nx M by have := hF.1; omega) (hF.2.2 0 _ rfl) rfl ?_
      rw [s3_7]
      refine x_goto (tgt := 97) dX0_readNext_121 (by decide) ?_
      have hlt := sq_lt (isLe_n hc108)
      rw [leL, if_pos hc108] at kk
      exact ih (a + 1) (by omega) (by omega) kk
theorem di_m {m d : Nat} (hm : m ≤ 999) (hd : nI 48 ≤ nI d ∧ nI d ≤ nI 57) (hd2 : d ≤ 255) : ∃ m2, m2 ≤ 10 * m + 9 ∧ nI 10 * nI m + nI d - nI 48 = nI m2 := by
  have h1 := (nI_leI (by decide) (by omega)).mp hd.1
  have h2 := (nI_leI (by omega) (by decide)).mp hd.2
  refine ⟨10 * m + d - 48, by omega, ?_⟩
  rw [pk_mul, nI_add, pk_sub (by omega)]
theorem kG_X0_X0_isDigit : GoodIn lw_all (va_wsS RX0 192 yX0_isDigit (ws_ yX0_isDigit cX0_isDigit 1 (some .boolean))) := lw_S q586 q587 q118 q588
theorem kP_X0_isDigit : kPar yX0_isDigit 1 := by decide +kernel
set_option maxHeartbeats 1000000 in
theorem m_rn204 {n0 s0 : Nat} (hF : LF g M) (hT : tpR S b t) {T : Value} {y : Int32} {s : Nat} {o1 : Option Value} {Q : Outcome → fc_M → Prop} : ∀ (k a : Nat) (v v2 : Int32), s < a → a ≤ t → t < a + k → (a ≤ s + 4 → v = v2 ∧ ∃ m, m < 10 ^ (a - s) ∧ v2 = nI m) → (∀ v9, ((diL b t s k a v2).1 - s < 5 → v9 = (diL b t s k a v2).2) → fc_X g l yX0_readNext cX0_readNext 2 (none) 7 n0 s0 (cl (fc_put M 0 6 T) (s3 S (nI (diL b t s k a v2).1) y v9) U) 259 [some (.ref (fc_B g + 0)), o1] [] (Q)) → fc_X g l yX0_readNext cX0_readNext 2 (none) 7 n0 s0 (cl (fc_put M 0 6 T) (s3 S (nI a) y v) U) 204 [some (.ref (fc_B g + 0)), o1] [] (Q) := by
  intro k
  induction k with
  | zero => intro a v v2 h0 h1 h2 hv kk; omega
  | succ k ih =>
    intro a v v2 h0 h1 h2 hv kk
    have ht4 := hT.2.1
    refine x_aload_n dX0_readNext_204 rfl ?_
    refine x_aload_n dX0_readNext_205 rfl ?_
    refine q_geti 0 7 dX0_readNext_206 (C := RX0) (T := TX0) (N := 30) rfl (by decide) q402 (show 0 < fc_nx M by have := hF.1; omega) (hF.2.2 0 _ rfl) rfl rfl ?_
    refine x_top (show s3 _ _ _ _ 0 7 = nI a from rfl) ?_
    refine k_V1iF (LF_p0 rfl hF) dX0_readNext_209 kG_X0_X0_raw kP_X0_raw rfl (by omega) (by decide) (Nat.le_of_ble_eq_true rfl) (d_raw (LF_p0 rfl hF) (tpR_s3 hT) (by omega)) ?_
    refine k_S1i dX0_readNext_212 kG_X0_X0_isDigit kP_X0_isDigit (by omega) (by decide) (Nat.le_of_ble_eq_true rfl) d_isDigit ?_
    refine x_ifB_eq (tgt := 259) dX0_readNext_215 (by decide) (fun hc215 => ?_) (fun hc215 => ?_)
    · rw [diL, if_neg hc215] at kk
      refine kk _ (fun h5 => ?_)
      exact (hv (by show a ≤ s + 4; have h6 : a - s < 5 := h5; omega)).1
    · refine x_aload_n dX0_readNext_218 rfl ?_
      refine x_ldc dX0_readNext_219 q589 ?_
      refine x_bipush (v := nI 10) dX0_readNext_221 (by decide) ?_
      refine x_aload_n dX0_readNext_223 rfl ?_
      refine q_geti 0 9 dX0_readNext_224 (C := RX0) (T := TX0) (N := 30) rfl (by decide) q404 (show 0 < fc_nx M by have := hF.1; omega) (hF.2.2 0 _ rfl) rfl rfl ?_
      refine x_top (show s3 _ _ _ _ 0 9 = v from rfl) ?_
      refine x_imul dX0_readNext_227 ?_
      refine x_aload_n dX0_readNext_228 rfl ?_
      refine x_aload_n dX0_readNext_229 rfl ?_
      refine q_geti 0 7 dX0_readNext_230 (C := RX0) (T := TX0) (N := 30) rfl (by decide) q402 (show 0 < fc_nx M by have := hF.1; omega) (hF.2.2 0 _ rfl) rfl rfl ?_
      refine x_top (show s3 _ _ _ _ 0 7 = nI a from rfl) ?_
      refine k_V1iF (LF_p0 rfl hF) dX0_readNext_233 kG_X0_X0_raw kP_X0_raw rfl (by omega) (by decide) (Nat.le_of_ble_eq_true rfl) (d_raw (LF_p0 rfl hF) (tpR_s3 hT) (by omega)) ?_
      refine x_iadd dX0_readNext_236 ?_
      refine x_bipush (v := nI 48) dX0_readNext_237 (by decide) ?_
      refine x_isub dX0_readNext_239 ?_
      refine x_mmin dX0_readNext_240 q590 (by omega) (Nat.le_of_ble_eq_true rfl) ?_
      refine q_puti 0 9 dX0_readNext_243 (C := RX0) (T := TX0) (N := 30) rfl (by decide) q404 rfl rfl rfl (show 0 < fc_nx M by have := hF.1; omega) (hF.2.2 0 _ rfl) rfl ?_
      rw [s3_9]
      refine x_aload_n dX0_readNext_246 rfl ?_
      refine x_dup dX0_readNext_247 rfl ?_
      refine q_geti 0 7 dX0_readNext_248 (C := RX0) (T := TX0) (N := 30) rfl (by decide) q402 (show 0 < fc_nx M by have := hF.1; omega) (hF.2.2 0 _ rfl) rfl rfl ?_
      refine x_top (show s3 _ _ _ _ 0 7 = nI a from rfl) ?_
      refine x_ic1 dX0_readNext_251 ?_
      refine x_iaddN dX0_readNext_252 ?_
      refine q_puti 0 7 dX0_readNext_253 (C := RX0) (T := TX0) (N := 30) rfl (by decide) q402 rfl rfl rfl (show 0 < fc_nx M by have := hF.1; omega) (hF.2.2 0 _ rfl) rfl ?_
      rw [s3_7]
      refine x_goto (tgt := 204) dX0_readNext_256 (by decide) ?_
      have hlt := sq_lt (isDi_n hc215)
      rw [diL, if_pos hc215] at kk
      refine ih (a + 1) _ _ (by omega) (by omega) (by omega) (fun h4 => ?_) kk
      rw [if_pos (show a < s + 4 by omega)]
      obtain ⟨e1, m, hm, e2⟩ := hv (by omega)
      obtain ⟨d, hd, e3⟩ := sq_m hT (isDi_n hc215)
      rw [e3] at hc215
      have hm9 : m ≤ 999 := by
        have : 10 ^ (a - s) ≤ 10 ^ 3 := Nat.pow_le_pow_right (by decide) (by omega)
        omega
      obtain ⟨m2, hm2, e4⟩ := di_m hm9 hc215 hd
      rw [e1, e2, e3, e4]
      refine ⟨if_pos (nI_lt (b := 99999) (by omega) (by decide)), m2, ?_, rfl⟩
      rw [show a + 1 - s = (a - s) + 1 by omega, Nat.pow_succ]
      omega
end T99ZZC

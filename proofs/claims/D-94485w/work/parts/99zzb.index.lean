set_option maxRecDepth 100000
section T99ZZB
variable {g : fc_G} {l : Launch} {M : fc_M}
def ixF (ws : List Int32) (c : Int32) : Nat → Nat → Int32
  | 0, _ => -1
  | k + 1, i => if i < ws.length then (if ws.getD i 0 = c then nI i else ixF ws c k (i + 1)) else -1
set_option maxHeartbeats 1000000 in
theorem c_canEnc {m : Nat} (hm : m ≤ 255) : fc_CX g l yJ1_canEncode cJ1_canEncode 1 (some .boolean) 0 [.int (nI m)] (M) (fc_re (nI 1) M) := by
  refine fc_enter (by decide) (Nat.le_of_ble_eq_true rfl) rfl ?_
  refine x_iload_n dJ1_canEncode_0 rfl ?_
  refine x_ifN_lt (tgt := 15) dJ1_canEncode_1 (by decide) (by omega) ?_
  refine x_iload_n dJ1_canEncode_4 rfl ?_
  refine x_sipush (v := nI 255) dJ1_canEncode_5 (by decide) ?_
  refine x_icmpN_gt (tgt := 15) dJ1_canEncode_8 (by decide) (by omega) (by omega) (fun hc8 => ?_) (fun hc8 => ?_)
  · refine x_ic0 dJ1_canEncode_15 ?_
    omega
  · refine x_ic1 dJ1_canEncode_11 ?_
    refine x_goto (tgt := 16) dJ1_canEncode_12 (by decide) ?_
    exact x_iret dJ1_canEncode_16 rfl (by rfl) fc_re.of
set_option maxHeartbeats 1000000 in
theorem m_idxc {n0 s0 : Nat} {q : Nat} {ws : List Int32} (hE : ∀ U, fc_Env g U → va_T .byte q ws.length (fun j => .int (ws.getD j 0)) (fc_A g) U (fc_H0 g)) (hN : ws.length < 1000) {c : Int32} {o1 o2 : Option Value} : ∀ (k i : Nat), i ≤ ws.length → ws.length < i + k → fc_X g l yJ1_indexOfChar cJ1_indexOfChar 6 (some .int) 0 n0 s0 (M) 7 [some (.ref q), o1, o2, some (.int (nI ws.length)), some (.int c), some (.int (nI i))] [] (fc_re (ixF ws c k i) M) := by
  intro k
  induction k with
  | zero => intro i h1 h2; omega
  | succ k ih =>
    intro i h1 h2
    refine x_iload dJ1_indexOfChar_7 rfl ?_
    refine x_iload_n dJ1_indexOfChar_9 rfl ?_
    refine x_icmpN_ge (tgt := 31) dJ1_indexOfChar_10 (by decide) (by omega) (by omega) (fun hc10 => ?_) (fun hc10 => ?_)
    · refine x_icm1 dJ1_indexOfChar_31 ?_
      rw [ixF, if_neg (Nat.not_lt.mpr hc10)]
      exact x_iret dJ1_indexOfChar_32 rfl rfl fc_re.of
    · refine x_aload_n dJ1_indexOfChar_13 rfl ?_
      refine x_iload dJ1_indexOfChar_14 rfl ?_
      refine x_tbld dJ1_indexOfChar_16 hE hc10 (by omega) rfl ?_
      refine x_iload dJ1_indexOfChar_17 rfl ?_
      refine x_icmp_ne (tgt := 25) dJ1_indexOfChar_19 (by decide) (fun hc19 => ?_) (fun hc19 => ?_)
      · refine x_iincN (n := 1) dJ1_indexOfChar_25 (by decide) rfl (by decide) rfl ?_
        refine x_goto (tgt := 7) dJ1_indexOfChar_28 (by decide) ?_
        rw [ixF, if_pos hc10, if_neg hc19]
        exact ih (i + 1) (by omega) (by omega)
      · refine x_iload dJ1_indexOfChar_22 rfl ?_
        rw [ixF, if_pos hc10, if_pos hc19]
        exact x_iret dJ1_indexOfChar_24 rfl rfl fc_re.of
set_option maxHeartbeats 1000000 in
theorem c_idxc {q : Nat} {ws : List Int32} (hE : ∀ U, fc_Env g U → va_T .byte q ws.length (fun j => .int (ws.getD j 0)) (fc_A g) U (fc_H0 g)) (hN : ws.length < 1000) {x : Int32} : fc_CX g l yJ1_indexOfChar cJ1_indexOfChar 6 (some .int) 0 [.ref q, .int x, .int (nI 0), .int (nI ws.length)] (M) (fc_re (ixF ws (bN x) (ws.length + 1) 0) M) := by
  refine fc_enter (by decide) (Nat.le_of_ble_eq_true rfl) rfl ?_
  refine x_iload_n dJ1_indexOfChar_0 rfl ?_
  refine x_i2b dJ1_indexOfChar_1 ?_
  refine x_istore dJ1_indexOfChar_2 (by decide) rfl ?_
  refine x_iload_n dJ1_indexOfChar_4 rfl ?_
  refine x_istore dJ1_indexOfChar_5 (by decide) rfl ?_
  exact m_idxc hE hN (ws.length + 1) 0 (by omega) (by omega)
theorem kG_J1_J1_canEncode : GoodIn lw_all (va_wsS RJ1 88 yJ1_canEncode (ws_ yJ1_canEncode cJ1_canEncode 1 (some .boolean))) := lw_S q608 q609 q128 q610
theorem kP_J1_canEncode : kPar yJ1_canEncode 1 := by decide +kernel
theorem kG_J1_J1_indexOfChar : GoodIn lw_all (va_wsS RJ1 95 yJ1_indexOfChar (ws_ yJ1_indexOfChar cJ1_indexOfChar 6 (some .int))) := lw_S q615 q616 q128 q617
theorem kP_J1_indexOfChar : kPar yJ1_indexOfChar 4 := by decide +kernel
set_option maxHeartbeats 1000000 in
theorem c_lidx {q : Nat} {ws : List Int32} (hE : ∀ U, fc_Env g U → va_T .byte q ws.length (fun j => .int (ws.getD j 0)) (fc_A g) U (fc_H0 g)) (hN : ws.length < 1000) (h0 : 0 < ws.length) {m : Nat} (hm : m ≤ 255) : fc_CX g l yJ1_indexOf cJ1_indexOf 4 (some .int) 1 [.ref q, .int (nI m), .int (nI 0), .int (nI ws.length)] (M) (fc_re (ixF ws (bN (nI m)) (ws.length + 1) 0) M) := by
  refine fc_enter (by decide) (Nat.le_of_ble_eq_true rfl) rfl ?_
  refine x_iload_n dJ1_indexOf_0 rfl ?_
  refine k_S1i dJ1_indexOf_1 kG_J1_J1_canEncode kP_J1_canEncode (by omega) (by decide) (Nat.le_of_ble_eq_true rfl) (c_canEnc hm) ?_
  refine x_if_ne (tgt := 9) dJ1_indexOf_4 (by decide) (fun hc4 => ?_) (fun hc4 => ?_)
  · refine x_iload_n dJ1_indexOf_9 rfl ?_
    refine x_ic0 dJ1_indexOf_10 ?_
    refine x_mmax dJ1_indexOf_11 q611 (by omega) (Nat.le_of_ble_eq_true rfl) ?_
    refine x_top (show (if nI 0 < nI 0 then nI 0 else nI 0) = nI 0 by decide) ?_
    refine x_istore_n dJ1_indexOf_14 (by decide) rfl ?_
    refine x_iload_n dJ1_indexOf_15 rfl ?_
    refine x_aload_n dJ1_indexOf_16 rfl ?_
    refine x_tlen dJ1_indexOf_17 hE ?_
    refine x_mmin dJ1_indexOf_18 q614 (by omega) (Nat.le_of_ble_eq_true rfl) ?_
    refine x_top (show (if nI ws.length < nI ws.length then nI ws.length else nI ws.length) = nI ws.length by split <;> rfl) ?_
    refine x_istore_n dJ1_indexOf_21 (by decide) rfl ?_
    refine x_iload_n dJ1_indexOf_22 rfl ?_
    refine x_iload_n dJ1_indexOf_23 rfl ?_
    refine x_icmpN_lt (tgt := 29) dJ1_indexOf_24 (by decide) (by omega) (by omega) (fun hc24 => ?_) (fun hc24 => ?_)
    · refine x_aload_n dJ1_indexOf_29 rfl ?_
      refine x_iload_n dJ1_indexOf_30 rfl ?_
      refine x_iload_n dJ1_indexOf_31 rfl ?_
      refine x_iload_n dJ1_indexOf_32 rfl ?_
      refine k_S4i dJ1_indexOf_33 kG_J1_J1_indexOfChar kP_J1_indexOfChar (by omega) (by decide) (Nat.le_of_ble_eq_true rfl) (c_idxc hE hN) ?_
      exact x_iret dJ1_indexOf_36 rfl rfl fc_re.of
    · omega
  · exact absurd hc4 (by decide)
theorem kG_J0_J0_length : GoodIn lw_all (wsV RJ0 505 RJ0 yJ0_length (ws_ yJ0_length cJ0_length 1 (some .int))) := lw_V q604 q539 q540 q127 q541
theorem kG_J0_J1_indexOf : GoodIn lw_all (va_wsS RJ0 637 yJ1_indexOf (ws_ yJ1_indexOf cJ1_indexOf 4 (some .int))) := lw_S q605 q606 q128 q607
theorem kP_J1_indexOf : kPar yJ1_indexOf 4 := by decide +kernel
set_option maxHeartbeats 1000000 in
theorem c_sidx2 {i : Nat} {q : String × Nat × String × List Int32} (hi : fcStr[i]? = some q) (h0 : 0 < q.2.2.2.length) (hN : q.2.2.2.length < 1000) {m : Nat} (hm : m ≤ 255) : fc_CX g l yJ0_indexOf_2 cJ0_indexOf_2 3 (some .int) 3 [.ref (fc_sK g i), .int (nI m), .int (nI 0)] (M) (fc_re (ixF q.2.2.2 (bN (nI m)) (q.2.2.2.length + 1) 0) M) := by
  refine fc_enter (by decide) (Nat.le_of_ble_eq_true rfl) rfl ?_
  refine x_aload_n dJ0_indexOf_2_0 rfl ?_
  refine x_O0e dJ0_indexOf_2_1 kG_J0_J0_isLatin1 kP_J0_isLatin1 (fun U h => (h.2.2.2.1 i q hi).2.1) (by omega) (by decide) (Nat.le_of_ble_eq_true rfl) (c_isLatin1 hi) ?_
  refine x_if_eq (tgt := 23) dJ0_indexOf_2_4 (by decide) (fun hc4 => ?_) (fun hc4 => ?_)
  · exact absurd hc4 (by decide)
  · refine x_aload_n dJ0_indexOf_2_7 rfl ?_
    refine x_getO dJ0_indexOf_2_8 (fun U h => (h.2.2.2.1 i q hi).2.2.2.1) q1641 ?_
    refine x_iload_n dJ0_indexOf_2_11 rfl ?_
    refine x_iload_n dJ0_indexOf_2_12 rfl ?_
    refine x_aload_n dJ0_indexOf_2_13 rfl ?_
    refine x_O0e dJ0_indexOf_2_14 kG_J0_J0_length kP_J0_length (fun U h => (h.2.2.2.1 i q hi).2.1) (by omega) (by decide) (Nat.le_of_ble_eq_true rfl) (c_length hi) ?_
    refine k_S4i dJ0_indexOf_2_17 kG_J0_J1_indexOf kP_J1_indexOf (by omega) (by decide) (Nat.le_of_ble_eq_true rfl) (c_lidx (fun U h => (h.2.2.2.1 i q hi).2.2.2.2) hN h0 hm) ?_
    refine x_goto (tgt := 36) dJ0_indexOf_2_20 (by decide) ?_
    exact x_iret dJ0_indexOf_2_36 rfl rfl fc_re.of
theorem x_O2e {y : MethodName} {cc : ByteArray} {nL : Nat} {ret : Option FieldType} {d n0 s0 : Nat} {pc : Nat} {L : List (Option Value)} {Q : Outcome → fc_M → Prop} {y2 : MethodName} {c2 : ByteArray} {n2 d2 q i : Nat} {r2 : Option FieldType} {rest : List Value} {a1 a2 : Value} {r : Int32} (hd : decode cc pc = .ok (.invokevirtual i, 3)) (hG : GoodIn lw_all (wsV y.cls i y2.cls y2 (ws_ y2 c2 n2 r2))) (hpar : kPar y2 2) (hE : ∀ U, fc_Env g U → va_O y2.cls q (fc_A g) U (fc_H0 g)) (hdd : d2 + 1 ≤ d) (hn2 : n2 ≤ 45) (hrest : (rest.map fun v => v.category).sum ≤ 8) (hC : fc_CX g l y2 c2 n2 r2 d2 [.ref q, a1, a2] M (fc_re r M))
    (kk : fc_X g l y cc nL ret d n0 s0 M (pc + 3) L (.int r :: rest) Q) : fc_X g l y cc nL ret d n0 s0 M pc L (a2 :: a1 :: .ref q :: rest) Q := by
  obtain ⟨o2, M2, ⟨ho, hM2⟩, hC2⟩ := hC
  subst hM2
  exact fc_callO (As := [a1, a2]) hd hG hpar hE hdd hn2 hrest rfl hC2 ho kk
theorem kG_J0_J0_indexOf_2 : GoodIn lw_all (wsV RJ0 633 RJ0 yJ0_indexOf_2 (ws_ yJ0_indexOf_2 cJ0_indexOf_2 3 (some .int))) := lw_V q600 q601 q602 q127 q603
theorem kP_J0_indexOf_2 : kPar yJ0_indexOf_2 2 := by decide +kernel
set_option maxHeartbeats 1000000 in
theorem c_sidx {i : Nat} {q : String × Nat × String × List Int32} (hi : fcStr[i]? = some q) (h0 : 0 < q.2.2.2.length) (hN : q.2.2.2.length < 1000) {m : Nat} (hm : m ≤ 255) : fc_CX g l yJ0_indexOf cJ0_indexOf 2 (some .int) 4 [.ref (fc_sK g i), .int (nI m)] (M) (fc_re (ixF q.2.2.2 (bN (nI m)) (q.2.2.2.length + 1) 0) M) := by
  refine fc_enter (by decide) (Nat.le_of_ble_eq_true rfl) rfl ?_
  refine x_aload_n dJ0_indexOf_0 rfl ?_
  refine x_iload_n dJ0_indexOf_1 rfl ?_
  refine x_ic0 dJ0_indexOf_2 ?_
  refine x_O2e dJ0_indexOf_3 kG_J0_J0_indexOf_2 kP_J0_indexOf_2 (fun U h => (h.2.2.2.1 i q hi).2.1) (by omega) (by decide) (Nat.le_of_ble_eq_true rfl) (c_sidx2 hi h0 hN hm) ?_
  exact x_iret dJ0_indexOf_6 rfl rfl fc_re.of
theorem bN_eq {m a : Nat} (hm : m ≤ 255) (ha : a < 128) : bN (nI m) = nI a ↔ nI m = nI a := by
  have h1 : ∀ m, m < 256 → nI m &&& nI 255 = nI m := by decide +kernel
  have h2 : ∀ a, a < 128 → bN (nI a) = nI a := by decide +kernel
  constructor
  · intro e
    have h3 := bN_and (x := nI m)
    rw [h1 m (by omega), e, h1 a (by omega)] at h3
    exact h3.symm
  · intro e
    rw [e, h2 a ha]
theorem ix_sg {m : Nat} (hm : m ≤ 255) : ¬ (ixF [59, 43, 45, 42, 47, 40, 41, 60, 61, 62] (bN (nI m)) 11 0 < 0) ↔ isSg (nI m) := by
  have e : ∀ a, a < 128 → ((nI a = bN (nI m)) ↔ (nI m = nI a)) := fun a ha => ⟨fun z => (bN_eq hm ha).mp z.symm, fun z => ((bN_eq hm ha).mpr z).symm⟩
  have hcg : isSg (nI m) ↔ (nI 59 = bN (nI m) ∨ nI 43 = bN (nI m) ∨ nI 45 = bN (nI m) ∨ nI 42 = bN (nI m) ∨ nI 47 = bN (nI m) ∨ nI 40 = bN (nI m) ∨ nI 41 = bN (nI m) ∨ nI 60 = bN (nI m) ∨ nI 61 = bN (nI m) ∨ nI 62 = bN (nI m)) := by
    rw [isSg, e 59 (by decide), e 43 (by decide), e 45 (by decide), e 42 (by decide), e 47 (by decide), e 40 (by decide), e 41 (by decide), e 60 (by decide), e 61 (by decide), e 62 (by decide)]
  rw [hcg]
  generalize bN (nI m) = c
  have step : ∀ (k i : Nat) (P : Prop), (hi : i < 10) → (¬ (ixF [59, 43, 45, 42, 47, 40, 41, 60, 61, 62] c k (i + 1) < 0) ↔ P) → (¬ (ixF [59, 43, 45, 42, 47, 40, 41, 60, 61, 62] c (k + 1) i < 0) ↔ (([59, 43, 45, 42, 47, 40, 41, 60, 61, 62] : List Int32).getD i 0 = c ∨ P)) := by
    intro k i P hi hP
    rw [ixF, if_pos (show i < ([59, 43, 45, 42, 47, 40, 41, 60, 61, 62] : List Int32).length from hi)]
    by_cases z : ([59, 43, 45, 42, 47, 40, 41, 60, 61, 62] : List Int32).getD i 0 = c
    · rw [if_pos z]
      exact ⟨fun _ => Or.inl z, fun _ => nI_pos (by omega)⟩
    · rw [if_neg z]
      exact ⟨fun q => Or.inr (hP.mp q), fun q => hP.mpr (q.resolve_left z)⟩
  have last : ¬ (ixF [59, 43, 45, 42, 47, 40, 41, 60, 61, 62] c 1 10 < 0) ↔ False := ⟨fun q => q (by rw [ixF, if_neg (by decide)]; decide), fun q => q.elim⟩
  have := step 10 0 _ (by decide) (step 9 1 _ (by decide) (step 8 2 _ (by decide) (step 7 3 _ (by decide) (step 6 4 _ (by decide) (step 5 5 _ (by decide) (step 4 6 _ (by decide) (step 3 7 _ (by decide) (step 2 8 _ (by decide) (step 1 9 _ (by decide) last)))))))))
  rw [this]
  constructor
  · intro q
    rcases q with q | q | q | q | q | q | q | q | q | q | q
    · exact Or.inl q
    · exact Or.inr (Or.inl q)
    · exact Or.inr (Or.inr (Or.inl q))
    · exact Or.inr (Or.inr (Or.inr (Or.inl q)))
    · exact Or.inr (Or.inr (Or.inr (Or.inr (Or.inl q))))
    · exact Or.inr (Or.inr (Or.inr (Or.inr (Or.inr (Or.inl q)))))
    · exact Or.inr (Or.inr (Or.inr (Or.inr (Or.inr (Or.inr (Or.inl q))))))
    · exact Or.inr (Or.inr (Or.inr (Or.inr (Or.inr (Or.inr (Or.inr (Or.inl q)))))))
    · exact Or.inr (Or.inr (Or.inr (Or.inr (Or.inr (Or.inr (Or.inr (Or.inr (Or.inl q))))))))
    · exact Or.inr (Or.inr (Or.inr (Or.inr (Or.inr (Or.inr (Or.inr (Or.inr (Or.inr q))))))))
    · exact q.elim
  · intro q
    rcases q with q | q | q | q | q | q | q | q | q | q
    · exact Or.inl q
    · exact Or.inr (Or.inl q)
    · exact Or.inr (Or.inr (Or.inl q))
    · exact Or.inr (Or.inr (Or.inr (Or.inl q)))
    · exact Or.inr (Or.inr (Or.inr (Or.inr (Or.inl q))))
    · exact Or.inr (Or.inr (Or.inr (Or.inr (Or.inr (Or.inl q)))))
    · exact Or.inr (Or.inr (Or.inr (Or.inr (Or.inr (Or.inr (Or.inl q))))))
    · exact Or.inr (Or.inr (Or.inr (Or.inr (Or.inr (Or.inr (Or.inr (Or.inl q)))))))
    · exact Or.inr (Or.inr (Or.inr (Or.inr (Or.inr (Or.inr (Or.inr (Or.inr (Or.inl q))))))))
    · exact Or.inr (Or.inr (Or.inr (Or.inr (Or.inr (Or.inr (Or.inr (Or.inr (Or.inr (Or.inl q)))))))))
end T99ZZB

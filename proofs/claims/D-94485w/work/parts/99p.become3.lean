set_option maxRecDepth 100000
section T99P
variable {g : fc_G} {l : Launch} {M : fc_M} {S : tT} {U : tU} {β : Nat} {w : Nat → Int32} {β2 : Nat} {w2 : Nat → Int32}
def pbL (w2 : Nat → Int32) (n : Nat) : Nat → Nat → (Nat → Int32) → (Nat → Int32)
  | 0, _, w => w
  | k + 1, i, w => if i < n then pbL w2 n k (i + 1) (pbW w w2 i) else w
def cbL (w2 : Nat → Int32) : Nat → Nat → (Nat → Int32) → (Nat → Int32)
  | 0, _, w => w
  | k + 1, i, w => if i < 4 then cbL w2 k (i + 1) (cbW w w2 i) else w
def cbV (β β2 : Nat) : Nat → Nat → tU → tU
  | 0, _, U => U
  | k + 1, i, U => if i < 4 then cbV β β2 k (i + 1) (cbU U β β2 i) else U
theorem LT_put {v : Value} (h : LT g M β) : LT g (fc_put M β 5 v) β := by
  obtain ⟨h1, h2, ⟨h3, h4, h5⟩, h6, h7⟩ := h
  have z : ∀ a k, ¬ (a = β ∧ k = 5) → fc_ct (fc_put M β 5 v) a k = fc_ct M a k := fun a k e => if_neg e
  exact ⟨h1, h2, ⟨(z _ _ (by omega)).trans h3, (z _ _ (by omega)).trans h4, (z _ _ (by omega)).trans h5⟩, fun p hp => (z _ _ (by omega)).trans (h6 p hp), fun c hc => (z _ _ (by omega)).trans (h7 c hc)⟩
theorem k_tputg {y : MethodName} {cc : ByteArray} {nL : Nat} {ret : Option FieldType} {d n0 s0 : Nat} {pc : Nat} {L : List (Option Value)} {st : List Value} {Q : Outcome → fc_M → Prop} {i : Nat} {v : Value} (hL : LT g M β) (hd : decode cc pc = .ok (.putfield i, 3)) (hq : Cond.fieldLink y.cls i (TX3 5).1 (TX3 5).2.1 (TX3 5).2.2.1 ∈ lw_all) (hn : narrow (fcTy 3 5) v = v) (hf : fits (fcTy 3 5) v = true) (kk : fc_X g l y cc nL ret d n0 s0 (cR (fc_put M β 5 v) S U β w) (pc + 3) L st Q) : fc_X g l y cc nL ret d n0 s0 (cR M S U β w) pc L (v :: .ref (fc_B g + β) :: st) Q := by
  have h0 := hL.1
  refine x_putf 3 5 hd (C := RX3) (T := TX3) (N := 12) rfl (by decide) hq rfl hn hf (show β < fc_nx M by omega) hL.sh0 ?_
  rw [cl_putr (by rw [hL.sh0]; rfl)]
  exact kk
theorem kG_X3_X5_become : GoodIn lw_all (wsV RX3 46 RX5 yX5_become (ws_ yX5_become cX5_become 2 (none))) := lw_V q1013 q1014 q1015 q123 q1016
theorem kP_X5_become : kPar yX5_become 1 := by decide +kernel
set_option maxHeartbeats 1000000 in
theorem m_become2 {n0 s0 : Nat} (hL : LT g M β) (hL2 : LT g M β2) (hdj : β2 + 67 ≤ β ∨ β + 67 ≤ β2) (ho : ∀ c, c < 4 → w2 (10 + 20 * c + 4) = 0 ∨ w2 (10 + 20 * c + 4) = nI 1) : ∀ (k i : Nat) (w : Nat → Int32) (U : tU), i ≤ 4 → 4 < i + k → fc_X g l yX3_become cX3_become 3 (none) 2 n0 s0 (cR M (clr S β2 w2) U β w) 57 [some (.ref (fc_B g + β)), some (.ref (fc_B g + β2)), some (.int (nI i))] [] (fc_rn (cR (fc_put M β 5 .null) (tu (clr S β2 w2) β 6 (-1)) (cbV β β2 k i U) β (cbL w2 k i w))) := by
  intro k
  induction k with
  | zero => intro i w U h1 h2; omega
  | succ k ih =>
    intro i w U h1 h2
    refine x_iload_n dX3_become_57 rfl ?_
    refine x_ic4 dX3_become_58 ?_
    refine x_icmpN_ge (tgt := 83) dX3_become_59 (by decide) (by omega) (by omega) (fun hc59 => ?_) (fun hc59 => ?_)
    · refine x_aload_n dX3_become_83 rfl ?_
      refine x_null dX3_become_84 ?_
      refine k_tputg hL dX3_become_85 q357 rfl rfl ?_
      refine x_aload_n dX3_become_88 rfl ?_
      refine x_icm1 dX3_become_89 ?_
      refine k_tputf 6 (LT_put hL) dX3_become_90 (by decide) q359 rfl rfl rfl ?_
      rw [cbL, cbV, if_neg (Nat.not_lt.mpr hc59), if_neg (Nat.not_lt.mpr hc59)]
      exact x_vret dX3_become_93 rfl fc_rn.of
    · refine x_aload_n dX3_become_62 rfl ?_
      refine k_cars 1 rfl hL dX3_become_63 q349 ?_
      refine x_iload_n dX3_become_66 rfl ?_
      refine k_cald hL dX3_become_67 (by omega) ?_
      refine x_aload_n dX3_become_68 rfl ?_
      refine o_cars 1 rfl dX3_become_69 q349 hL2 hdj ?_
      refine x_iload_n dX3_become_72 rfl ?_
      refine o_cald dX3_become_73 (by omega) hL2 hdj ?_
      refine k_V1vC hL (by omega) dX3_become_74 kG_X3_X5_become kP_X5_become rfl (by omega) (by decide) (Nat.le_of_ble_eq_true rfl) (d_cbecome hL hL2 hdj (by omega) (ho i hc59)) ?_
      refine x_iincN (n := 1) dX3_become_77 (by decide) rfl (by decide) rfl ?_
      refine x_goto (tgt := 57) dX3_become_80 (by decide) ?_
      rw [cbL, cbV, if_pos hc59, if_pos hc59]
      exact ih (i + 1) _ _ (by omega) (by omega)
theorem kG_X3_X4_become : GoodIn lw_all (wsV RX3 42 RX4 yX4_become (ws_ yX4_become cX4_become 2 (none))) := lw_V q1009 q1010 q1011 q122 q1012
theorem kP_X4_become : kPar yX4_become 1 := by decide +kernel
set_option maxHeartbeats 1000000 in
theorem m_become1 {n0 s0 : Nat} (hL : LT g M β) (hL2 : LT g M β2) (hdj : β2 + 67 ≤ β ∨ β + 67 ≤ β2) (ho : ∀ c, c < 4 → w2 (10 + 20 * c + 4) = 0 ∨ w2 (10 + 20 * c + 4) = nI 1) {n : Nat} (hn : n ≤ 60) : ∀ (k i : Nat) (w : Nat → Int32), w 2 = nI n → i ≤ n → n < i + k → fc_X g l yX3_become cX3_become 3 (none) 2 n0 s0 (cR M (clr S β2 w2) U β w) 26 [some (.ref (fc_B g + β)), some (.ref (fc_B g + β2)), some (.int (nI i))] [] (fc_rn (cR (fc_put M β 5 .null) (tu (clr S β2 w2) β 6 (-1)) (cbV β β2 5 0 U) β (cbL w2 5 0 (pbL w2 n k i w)))) := by
  intro k
  induction k with
  | zero => intro i w hw h1 h2; omega
  | succ k ih =>
    intro i w hw h1 h2
    refine x_iload_n dX3_become_26 rfl ?_
    refine x_aload_n dX3_become_27 rfl ?_
    refine k_tget 2 hL dX3_become_28 (by decide) q351 ?_
    refine x_top hw ?_
    refine x_icmpN_ge (tgt := 55) dX3_become_31 (by decide) (by omega) (by omega) (fun hc31 => ?_) (fun hc31 => ?_)
    · refine x_ic0 dX3_become_55 ?_
      refine x_istore_n dX3_become_56 (by decide) rfl ?_
      rw [pbL, if_neg (Nat.not_lt.mpr hc31)]
      exact m_become2 hL hL2 hdj ho 5 0 _ _ (by omega) (by omega)
    · refine x_aload_n dX3_become_34 rfl ?_
      refine k_people 0 rfl hL dX3_become_35 q347 ?_
      refine x_iload_n dX3_become_38 rfl ?_
      refine k_pald hL dX3_become_39 (by omega) ?_
      refine x_aload_n dX3_become_40 rfl ?_
      refine o_people 0 rfl dX3_become_41 q347 hL2 hdj ?_
      refine x_iload_n dX3_become_44 rfl ?_
      refine o_pald dX3_become_45 (by omega) hL2 hdj ?_
      refine k_V1vP hL (by omega) dX3_become_46 kG_X3_X4_become kP_X4_become rfl (by omega) (by decide) (Nat.le_of_ble_eq_true rfl) (d_pbecome hL hL2 hdj (by omega)) ?_
      refine x_iincN (n := 1) dX3_become_49 (by decide) rfl (by decide) rfl ?_
      refine x_goto (tgt := 26) dX3_become_52 (by decide) ?_
      rw [pbL, if_pos hc31]
      exact ih (i + 1) _ (by unfold pbW; rw [up_n (by omega), up_n (by omega), up_n (by omega), up_n (by omega), up_n (by omega), up_n (by omega), up_n (by omega)]; exact hw) (by omega) (by omega)
set_option maxHeartbeats 1000000 in
theorem d_become (hL : LT g M β) (hL2 : LT g M β2) (hdj : β2 + 67 ≤ β ∨ β + 67 ≤ β2) (ho : ∀ c, c < 4 → w2 (10 + 20 * c + 4) = 0 ∨ w2 (10 + 20 * c + 4) = nI 1) {n : Nat} (hn : n ≤ 60) (hw : w2 2 = nI n) : fc_CX g l yX3_become cX3_become 3 (none) 2 [.ref (fc_B g + β), .ref (fc_B g + β2)] (cR M (clr S β2 w2) U β w) (fc_rn (cR (fc_put M β 5 .null) (tu (clr S β2 w2) β 6 (-1)) (cbV β β2 5 0 U) β (cbL w2 5 0 (pbL w2 n (n + 1) 0 (up (up (up w 2 (w2 2)) 3 (w2 3)) 4 (w2 4)))))) := by
  refine fc_enter (by decide) (Nat.le_of_ble_eq_true rfl) rfl ?_
  refine x_aload_n dX3_become_0 rfl ?_
  refine x_aload_n dX3_become_1 rfl ?_
  refine o_tget 2 dX3_become_2 (by decide) q351 hL2 hdj ?_
  refine k_tput 2 hL dX3_become_5 (by decide) q351 rfl ?_
  refine x_aload_n dX3_become_8 rfl ?_
  refine x_aload_n dX3_become_9 rfl ?_
  refine o_tget 3 dX3_become_10 (by decide) q353 hL2 hdj ?_
  refine k_tput 3 hL dX3_become_13 (by decide) q353 rfl ?_
  refine x_aload_n dX3_become_16 rfl ?_
  refine x_aload_n dX3_become_17 rfl ?_
  refine o_tget 4 dX3_become_18 (by decide) q355 hL2 hdj ?_
  refine k_tput 4 hL dX3_become_21 (by decide) q355 rfl ?_
  refine x_ic0 dX3_become_24 ?_
  refine x_istore_n dX3_become_25 (by decide) rfl ?_
  exact m_become1 hL hL2 hdj ho hn (n + 1) 0 _ (by rw [up_n (by omega), up_n (by omega), up_s]; exact hw) (by omega) (by omega)
end T99P

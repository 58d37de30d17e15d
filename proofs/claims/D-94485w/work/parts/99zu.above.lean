set_option maxRecDepth 100000
section T99ZU
variable {g : fc_G} {l : Launch} {M : fc_M} {S S0 : tT} {U : tU} {w : Nat → Int32} {π F nC : Nat} {A : Nat → Int32}
/-- what the search for places may change -/
abbrev pS (S S' : tT) : Prop := ∀ a k, (a < 236 ∨ 239 < a) → S' a k = S a k
theorem pS.tu {S' : tT} {a k : Nat} {x : Int32} (h : pS S S') (ha : 236 ≤ a ∧ a ≤ 239) : pS S (tu S' a k x) := fun b j hb => (if_neg (fun z => by omega)).trans (h b j hb)
theorem PC_pS {S' : tT} (hO : PC g M S π 32 F nC w) (hp : plA π) (h : pS S S') : PC g M S' π 32 F nC w := PC_off hO (fun a k a1 a2 => h a k (by rcases hp with e | e <;> omega))
theorem sh_ab (h : LF g M) {j : Nat} (hj : j < 4) : fc_sh M (236 + j) = .inr (.int, 80) := by
  have hj' : j = 0 ∨ j = 1 ∨ j = 2 ∨ j = 3 := by omega
  rcases hj' with e | e | e | e <;> subst e <;> exact h.2.2 _ _ rfl
theorem tu_tu {a k : Nat} {x z : Int32} : tu (tu S a k x) a k z = tu S a k z := by
  funext b j
  show (if b = a ∧ j = k then z else if b = a ∧ j = k then x else S b j) = (if b = a ∧ j = k then z else S b j)
  by_cases e : b = a ∧ j = k
  · rw [if_pos e, if_pos e]
  · rw [if_neg e, if_neg e, if_neg e]
theorem bwD_min {a i b : Nat} (h1 : a < i) (h2 : i ≤ b) (h3 : b < 2 ^ 31) : (if nI (b - i) < nI (i - a) then nI (b - i) else nI (i - a)) = bwD a i (nI b) := by
  rw [bwD, if_neg (nI_nm2 h3), pk_sub h2]
  by_cases z9 : b - i < i - a
  · rw [if_pos (nI_lt z9 (by omega)), if_neg (nI_nlt (by omega) (by omega))]
  · rw [if_neg (nI_nlt (by omega) (by omega))]
    by_cases z8 : i - a < b - i
    · rw [if_pos (nI_lt z8 (by omega))]
    · rw [if_neg (nI_nlt (by omega) (by omega)), show i - a = b - i by omega]
theorem tu_at {a k : Nat} {x : Int32} : tu S a k x a k = x := if_pos ⟨rfl, rfl⟩
set_option maxHeartbeats 1000000 in
theorem m_below {n0 s0 : Nat} (hO : PC g M S π 32 F nC w) (hF : F ≤ 80) (hWt : ∀ i, i < F → S 30 i = w (740 + i)) {a : Nat} (ha : a < F) : ∀ (k i : Nat) (v : Int32), i ≤ a → a < i + k → fc_X g l yX0_below cX0_below 4 (some .int) 1 n0 s0 (cR M S U 32 w) 4 [some (.ref (fc_B g + 0)), some (.int (nI a)), some (.int v), some (.int (nI i))] [] (fc_re (blL w a k i v) (cR M S U 32 w)) := by
  intro k
  induction k with
  | zero => intro i v h1 h2; omega
  | succ k ih =>
    intro i v h1 h2
    refine x_iload_n dX0_below_4 rfl ?_
    refine x_iload_n dX0_below_5 rfl ?_
    refine x_icmpN_ge (tgt := 28) dX0_below_6 (by decide) (by omega) (by omega) (fun hc6 => ?_) (fun hc6 => ?_)
    · refine x_iload_n dX0_below_28 rfl ?_
      rw [blL, if_neg (Nat.not_lt.mpr hc6)]
      exact x_iret dX0_below_29 rfl rfl fc_re.of
    · refine x_iload_n dX0_below_9 rfl ?_
      refine x_aload_n dX0_below_10 rfl ?_
      refine k_Fref 15 hO.1 rfl (by decide) rfl dX0_below_11 q412 ?_
      refine x_iload_n dX0_below_14 rfl ?_
      refine k_ald (a := 30) dX0_below_15 (show 30 < fc_nx M by have := hO.1.1; omega) (hO.1.2.2 30 _ rfl) (by decide) (by omega) (by omega) ?_
      refine x_top (hWt _ (by omega)) ?_
      refine x_iload_n dX0_below_16 rfl ?_
      refine x_iload_n dX0_below_17 rfl ?_
      refine x_isubN dX0_below_18 (by omega) ?_
      refine x_imul dX0_below_19 ?_
      refine x_iadd dX0_below_20 ?_
      refine x_istore_n dX0_below_21 (by decide) rfl ?_
      refine x_iincN (n := 1) dX0_below_22 (by decide) rfl (by decide) rfl ?_
      refine x_goto (tgt := 4) dX0_below_25 (by decide) ?_
      rw [blL, if_pos hc6]
      exact ih (i + 1) _ (by omega) (by omega)
set_option maxHeartbeats 1000000 in
theorem d_below (hO : PC g M S π 32 F nC w) (hF : F ≤ 80) (hWt : ∀ i, i < F → S 30 i = w (740 + i)) {a : Nat} (ha : a < F) : fc_CX g l yX0_below cX0_below 4 (some .int) 1 [.ref (fc_B g + 0), .int (nI a)] (cR M S U 32 w) (fc_re (blQ w a) (cR M S U 32 w)) := by
  refine fc_enter (by decide) (Nat.le_of_ble_eq_true rfl) rfl ?_
  refine x_ic0 dX0_below_0 ?_
  refine x_istore_n dX0_below_1 (by decide) rfl ?_
  refine x_ic0 dX0_below_2 ?_
  refine x_istore_n dX0_below_3 (by decide) rfl ?_
  exact m_below hO hF hWt ha (a + 1) 0 (nI 0) (by omega) (by omega)
set_option maxHeartbeats 1000000 in
theorem m_between {n0 s0 : Nat} (hO : PC g M S π 32 F nC w) (hF : F ≤ 80) (hWt : ∀ i, i < F → S 30 i = w (740 + i)) {a b : Nat} (hb : b < F) : ∀ (k i : Nat) (v : Int32), a < i → i ≤ b → F < i + k → fc_X g l yX0_between cX0_between 5 (some .int) 1 n0 s0 (cR M S U 32 w) 7 [some (.ref (fc_B g + 0)), some (.int (nI a)), some (.int (nI b)), some (.int v), some (.int (nI i))] [] (fc_re (bwL w F a (nI b) k i v) (cR M S U 32 w)) := by
  intro k
  induction k with
  | zero => intro i v h0 h1 h2; omega
  | succ k ih =>
    intro i v h0 h1 h2
    refine x_iload dX0_between_7 rfl ?_
    refine x_iload_n dX0_between_9 rfl ?_
    refine x_icmpN_ge (tgt := 41) dX0_between_10 (by decide) (by omega) (by omega) (fun hc10 => ?_) (fun hc10 => ?_)
    · refine x_iload_n dX0_between_41 rfl ?_
      obtain rfl : i = b := by omega
      rw [bwL, if_pos hb, if_pos rfl]
      exact x_iret dX0_between_42 rfl rfl fc_re.of
    · refine x_iload_n dX0_between_13 rfl ?_
      refine x_aload_n dX0_between_14 rfl ?_
      refine k_Fref 15 hO.1 rfl (by decide) rfl dX0_between_15 q412 ?_
      refine x_iload dX0_between_18 rfl ?_
      refine k_ald (a := 30) dX0_between_20 (show 30 < fc_nx M by have := hO.1.1; omega) (hO.1.2.2 30 _ rfl) (by decide) (by omega) (by omega) ?_
      refine x_top (hWt _ (by omega)) ?_
      refine x_iload dX0_between_21 rfl ?_
      refine x_iload_n dX0_between_23 rfl ?_
      refine x_isubN dX0_between_24 (by omega) ?_
      refine x_iload_n dX0_between_25 rfl ?_
      refine x_iload dX0_between_26 rfl ?_
      refine x_isubN dX0_between_28 (by omega) ?_
      refine x_mmin dX0_between_29 q590 (by omega) (Nat.le_of_ble_eq_true rfl) ?_
      refine x_top (w := bwD a i (nI b)) (bwD_min (by omega) (by omega) (by omega)) ?_
      refine x_imul dX0_between_32 ?_
      refine x_iadd dX0_between_33 ?_
      refine x_istore_n dX0_between_34 (by decide) rfl ?_
      refine x_iincN (n := 1) dX0_between_35 (by decide) rfl (by decide) rfl ?_
      refine x_goto (tgt := 7) dX0_between_38 (by decide) ?_
      rw [bwL, if_pos (by omega), if_neg (fun z => absurd ((nI_eq (by omega) (by omega)).mp z) (by omega))]
      exact ih (i + 1) _ (by omega) (by omega) (by omega)
set_option maxHeartbeats 1000000 in
theorem d_between (hO : PC g M S π 32 F nC w) (hF : F ≤ 80) (hWt : ∀ i, i < F → S 30 i = w (740 + i)) {a b : Nat} (hab : a < b) (hb : b < F) : fc_CX g l yX0_between cX0_between 5 (some .int) 1 [.ref (fc_B g + 0), .int (nI a), .int (nI b)] (cR M S U 32 w) (fc_re (bwQ w F a (nI b)) (cR M S U 32 w)) := by
  refine fc_enter (by decide) (Nat.le_of_ble_eq_true rfl) rfl ?_
  refine x_ic0 dX0_between_0 ?_
  refine x_istore_n dX0_between_1 (by decide) rfl ?_
  refine x_iload_n dX0_between_2 rfl ?_
  refine x_ic1 dX0_between_3 ?_
  refine x_iaddN dX0_between_4 ?_
  refine x_istore dX0_between_5 (by decide) rfl ?_
  exact m_between hO hF hWt hb (F - a) (a + 1) (nI 0) (by omega) (by omega) (by omega)
end T99ZU

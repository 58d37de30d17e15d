set_option maxRecDepth 100000
section T99ZZY
variable {g : fc_G} {l : Launch} {M : fc_M} {S : tT} {U : tU} {E : tEn}
def flS (S : tT) (a n : Nat) (v : Int32) : tT := fun b k => if b = a ∧ k < n then v else S b k
theorem flS_s {a i : Nat} {v : Int32} : tu (flS S a i v) a i v = flS S a (i + 1) v := by
  funext b k
  show (if b = a ∧ k = i then v else if b = a ∧ k < i then v else S b k) = (if b = a ∧ k < i + 1 then v else S b k)
  by_cases h : b = a ∧ k = i
  · rw [if_pos h, if_pos ⟨h.1, by omega⟩]
  · rw [if_neg h]
    by_cases h2 : b = a ∧ k < i
    · rw [if_pos h2, if_pos ⟨h2.1, by omega⟩]
    · rw [if_neg h2, if_neg (fun z => by omega)]
theorem flS_0 {a : Nat} {v : Int32} : flS S a 0 v = S := funext fun b => funext fun k => if_neg (fun z => absurd z.2 (Nat.not_lt_zero k))
set_option maxHeartbeats 1000000 in
theorem m_fill {n0 s0 : Nat} {a n : Nat} {v : Int32} (ha : a < fc_nx M) (hs : fc_sh M a = .inr (.int, n)) (hn : n < 100000) : ∀ (k i : Nat), i ≤ n → n < i + k → fc_X g l yJ8_fill cJ8_fill 4 (none) 0 n0 s0 (cl M (flS S a i v) U) 5 [some (.ref (fc_B g + a)), some (.int v), some (.int (nI i)), some (.int (nI n))] [] (fc_rn (cl M (flS S a n v) U)) := by
  intro k
  induction k with
  | zero => intro i h1 h2; omega
  | succ k ih =>
    intro i h1 h2
    refine x_iload_n dJ8_fill_5 rfl ?_
    refine x_iload_n dJ8_fill_6 rfl ?_
    refine x_icmpN_ge (tgt := 20) dJ8_fill_7 (by decide) (by omega) (by omega) (fun hc7 => ?_) (fun hc7 => ?_)
    · obtain rfl : i = n := by omega
      exact x_vret dJ8_fill_20 rfl fc_rn.of
    · refine x_aload_n dJ8_fill_10 rfl ?_
      refine x_iload_n dJ8_fill_11 rfl ?_
      refine x_iload_n dJ8_fill_12 rfl ?_
      refine x_iast dJ8_fill_13 ha hs (by omega) hc7 ?_
      rw [cl_puti (by rw [hs]; rfl), flS_s]
      refine x_iincN (n := 1) dJ8_fill_14 (by decide) rfl (by decide) rfl ?_
      refine x_goto (tgt := 5) dJ8_fill_17 (by decide) ?_
      exact ih (i + 1) (by omega) (by omega)
set_option maxHeartbeats 1000000 in
theorem c_fill {a n : Nat} {v : Int32} (ha : a < fc_nx M) (hs : fc_sh M a = .inr (.int, n)) (hn : n < 100000) : fc_CX g l yJ8_fill cJ8_fill 4 (none) 0 [.ref (fc_B g + a), .int v] (cl M S U) (fc_rn (cl M (flS S a n v) U)) := by
  refine fc_enter (by decide) (Nat.le_of_ble_eq_true rfl) rfl ?_
  refine x_eqM (congrArg (fun z => cl M z U) (flS_0 (S := S) (a := a) (v := v)).symm) ?_
  refine x_ic0 dJ8_fill_0 ?_
  refine x_istore_n dJ8_fill_1 (by decide) rfl ?_
  refine x_aload_n dJ8_fill_2 rfl ?_
  refine x_alen dJ8_fill_3 ha hs ?_
  refine x_istore_n dJ8_fill_4 (by decide) rfl ?_
  exact m_fill ha hs hn (n + 1) 0 (by omega) (by omega)
/-- the cars that were read -/
def KV (F nc : Nat) (K : Nat → Int32) : Prop := ∀ c, c < nc → (∃ r, 1 ≤ r ∧ r ≤ 12 ∧ K (10 * c + 0) = nI r) ∧ (∃ r, 1 ≤ r ∧ r ≤ 9 ∧ K (10 * c + 1) = nI r) ∧ (∃ r, 1 ≤ r ∧ r ≤ 9 ∧ K (10 * c + 2) = nI r) ∧ (∃ r, r ≤ 9 ∧ K (10 * c + 3) = nI r) ∧ ∃ r, r < F ∧ K (10 * c + 4) = nI r
theorem pCL_at {fl : Int32} {nc : Nat} : ∀ (m i : Nat) (q : tTk) (K : Nat → Int32) (z : tTk × (Nat → Int32)), 5 < i + m → pCL E fl nc m i q K = .ok z → (∀ x, (x < 10 * nc + i ∨ 10 * nc + 5 ≤ x) → z.2 x = K x) ∧ ∀ j, i ≤ j → j < 5 → cLo j ≤ z.2 (10 * nc + j) ∧ z.2 (10 * nc + j) ≤ cHi fl j
  | 0, i, q, K, z, h, e => by
    cases e
    exact ⟨fun _ _ => rfl, fun j h1 h2 => by omega⟩
  | m + 1, i, q, K, z, h, e => by
    by_cases c : i < 5
    · cases hp : pNu E (cLo i) (cHi fl i) q with
      | error er => rw [pCL_e c hp] at e; cases e
      | ok q2 =>
        rw [pCL_k c hp] at e
        obtain ⟨h1, h2⟩ := pCL_at m (i + 1) _ _ _ (by omega) e
        have hv := pNu_ok hp
        refine ⟨fun x hx => (h1 x (by omega)).trans (up_n (by omega)), fun j h3 h4 => ?_⟩
        by_cases ej : j = i
        · subst ej
          rw [h1 _ (by omega), up_s]
          exact hv
        · exact h2 j (by omega) h4
    · rw [pCL, if_neg c] at e
      cases e
      exact ⟨fun _ _ => rfl, fun j h1 h2 => by omega⟩
/-- what is known of a tower's text while it is read -/
def XV (X : tXs) : Prop := ∃ F, X.1 = nI F ∧ F ≤ 80 ∧ F ≠ 1 ∧ X.2.1 ≤ 4 ∧ (F = 0 → X.2.1 = 0) ∧ KV F X.2.1 X.2.2.1
theorem tlR_XV {q : tTk} {X : tXs} {x : tTk × tXs} (hX : XV X) (h : tlR E q X = .ok x) : XV x.2 := by
  obtain ⟨F, h1, h2, h3, h4, h5, h6⟩ := hX
  unfold tlR at h
  split at h
  · have z := pFl_ok h
    obtain ⟨m, m1, m2, m3⟩ := nI_between (by decide) z.2.1 (by decide)
    have hF0 : F = 0 := by
      rcases Nat.eq_zero_or_pos F with w | w
      · exact w
      · have := z.1
        rw [h1] at this
        exact absurd (nI_lt (a := 0) (b := F) w (by omega)) (Int32.not_lt.mpr this)
    have hn0 := h5 hF0
    refine ⟨m, m3, m2, by omega, by rw [z.2.2]; exact h4, fun w => by omega, fun c hc => ?_⟩
    rw [z.2.2, hn0] at hc
    omega
  · split at h
    · unfold pCr at h
      split at h
      · cases h
      · split at h
        · cases h
        · rename_i c1 c2 c3 c4
          cases hp : pCL E X.1 X.2.1 6 0 (nxt E q) X.2.2.1 with
          | error e => rw [hp] at h; cases h
          | ok z =>
            rw [hp] at h
            cases h
            obtain ⟨k1, k2⟩ := pCL_at 6 0 _ _ _ (by decide) hp
            have hFn : F ≠ 0 := fun w => c3 (by rw [h1, w]; rfl)
            refine ⟨F, h1, h2, h3, (by show X.2.1 + 1 ≤ 4; omega), fun w => absurd w hFn, fun c hc => ?_⟩
            have hc2 : c < X.2.1 + 1 := hc
            by_cases e : c = X.2.1
            · subst e
              obtain ⟨r0, a0, b0, e0⟩ := nI_between (b := 12) (by decide) (k2 0 (by decide) (by decide)) (a := 1) (by decide)
              obtain ⟨r1, a1, b1, e1⟩ := nI_between (b := 9) (by decide) (k2 1 (by decide) (by decide)) (a := 1) (by decide)
              obtain ⟨r2, a2, b2, e2⟩ := nI_between (b := 9) (by decide) (k2 2 (by decide) (by decide)) (a := 1) (by decide)
              obtain ⟨r3, a3, b3, e3⟩ := nI_between (b := 9) (by decide) (k2 3 (by decide) (by decide)) (a := 0) (by decide)
              have k4 := k2 4 (by decide) (by decide)
              have k5 : nI 0 ≤ z.2 (10 * X.2.1 + 4) ∧ z.2 (10 * X.2.1 + 4) ≤ nI F - nI 1 := ⟨k4.1, by rw [← h1]; exact k4.2⟩
              obtain ⟨r4, a4, e4⟩ := lt_of_m1 (by omega) k5
              exact ⟨⟨r0, a0, b0, e0⟩, ⟨r1, a1, b1, e1⟩, ⟨r2, a2, b2, e2⟩, ⟨r3, b3, e3⟩, r4, a4, e4⟩
            · have w := h6 c (by omega)
              show (∃ r, 1 ≤ r ∧ r ≤ 12 ∧ z.2 (10 * c + 0) = nI r) ∧ (∃ r, 1 ≤ r ∧ r ≤ 9 ∧ z.2 (10 * c + 1) = nI r) ∧ (∃ r, 1 ≤ r ∧ r ≤ 9 ∧ z.2 (10 * c + 2) = nI r) ∧ (∃ r, r ≤ 9 ∧ z.2 (10 * c + 3) = nI r) ∧ ∃ r, r < F ∧ z.2 (10 * c + 4) = nI r
              rw [k1 _ (by omega), k1 _ (by omega), k1 _ (by omega), k1 _ (by omega), k1 _ (by omega)]
              exact w
    · unfold pSk at h
      split at h
      · cases h
      · cases hp : pNu E (nI 0) (nI X.2.1 - nI 1) (nxt E q) with
        | error e => rw [hp] at h; cases h
        | ok q2 =>
          rw [hp] at h
          simp only at h
          cases hp2 : pNu E (nI 0) (X.1 - nI 1) q2 with
          | error e => rw [hp2] at h; cases h
          | ok q3 =>
            rw [hp2] at h
            cases h
            exact ⟨F, h1, h2, h3, h4, h5, h6⟩
end T99ZZY

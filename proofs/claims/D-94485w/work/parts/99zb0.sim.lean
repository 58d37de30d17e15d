set_option maxRecDepth 100000
/-! ===== two rows that tell the same: what a second reads is told the same way ===== -/
section TA0
/-- the same but for people from n on, cars from nC on, and what is not yet so of entered (5), left (6) -/
def Rl (n nC : Nat) (v w : Nat → Int32) : Prop := (∀ i, (i < 10 ∨ (100 ≤ i ∧ i < 820) ∨ 1300 ≤ i) → v i = w i) ∧ (∀ c, c < nC → ∀ k, k < 20 → v (10 + 20 * c + k) = w (10 + 20 * c + k)) ∧ (∀ p, p < n → ∀ k, k < 5 → v (820 + 8 * p + k) = w (820 + 8 * p + k)) ∧ ∀ p, p < n → ((w (820 + 8 * p + 3) = nI 2 ∨ w (820 + 8 * p + 3) = nI 3) → v (820 + 8 * p + 5) = w (820 + 8 * p + 5)) ∧ (w (820 + 8 * p + 3) = nI 3 → v (820 + 8 * p + 6) = w (820 + 8 * p + 6))
variable {n nC : Nat} {v w : Nat → Int32}
theorem Rl.rf : Rl n nC w w := ⟨fun _ _ => rfl, fun _ _ _ _ => rfl, fun _ _ _ _ => rfl, fun _ _ => ⟨fun _ => rfl, fun _ => rfl⟩⟩
theorem up_cg {i k : Nat} {x : Int32} (h : k ≠ i → v k = w k) : up v i x k = up w i x k := by
  by_cases e : k = i
  · subst e; rw [up_s, up_s]
  · rw [up_n e, up_n e]; exact h e
theorem Rl.up1 (h : Rl n nC v w) {i : Nat} {x : Int32} (hi : ∀ p, p < n → i ≠ 820 + 8 * p + 3) : Rl n nC (up v i x) (up w i x) := by
  obtain ⟨h1, h2, h3, h4⟩ := h
  refine ⟨fun j hj => up_cg (fun _ => h1 j hj), fun c hc k hk => up_cg (fun _ => h2 c hc k hk), fun p hp k hk => up_cg (fun _ => h3 p hp k hk), fun p hp => ?_⟩
  rw [up_n (Ne.symm (hi p hp))]
  exact ⟨fun e => up_cg (fun _ => (h4 p hp).1 e), fun e => up_cg (fun _ => (h4 p hp).2 e)⟩
theorem Rl.ups (h : Rl n nC v w) {q : Nat} (hq : q < n) {x : Int32} (hx : (x = nI 2 ∨ x = nI 3) → v (820 + 8 * q + 5) = w (820 + 8 * q + 5)) (hx2 : x = nI 3 → v (820 + 8 * q + 6) = w (820 + 8 * q + 6)) : Rl n nC (up v (820 + 8 * q + 3) x) (up w (820 + 8 * q + 3) x) := by
  obtain ⟨h1, h2, h3, h4⟩ := h
  refine ⟨fun j hj => up_cg (fun _ => h1 j hj), fun c hc k hk => up_cg (fun _ => h2 c hc k hk), fun p hp k hk => up_cg (fun _ => h3 p hp k hk), fun p hp => ?_⟩
  by_cases e : p = q
  · subst e
    rw [up_s, up_n (by omega), up_n (by omega), up_n (by omega), up_n (by omega)]
    exact ⟨hx, hx2⟩
  · rw [up_n (by omega), up_n (by omega), up_n (by omega), up_n (by omega), up_n (by omega)]
    exact h4 p hp
theorem Rl.st1 (h : Rl n nC v w) {q : Nat} (hq : q < n) : Rl n nC (up v (820 + 8 * q + 3) (nI 1)) (up w (820 + 8 * q + 3) (nI 1)) := h.ups hq (fun e => by rcases e with e | e <;> exact absurd e (by decide)) (fun e => absurd e (by decide))
theorem Rl.st2 (h : Rl n nC v w) {q : Nat} {x : Int32} (hq : q < n) : Rl n nC (up (up v (820 + 8 * q + 3) (nI 2)) (820 + 8 * q + 5) x) (up (up w (820 + 8 * q + 3) (nI 2)) (820 + 8 * q + 5) x) := by
  obtain ⟨h1, h2, h3, h4⟩ := h
  refine ⟨fun j hj => up_cg (fun _ => up_cg (fun _ => h1 j hj)), fun c hc k hk => up_cg (fun _ => up_cg (fun _ => h2 c hc k hk)), fun p hp k hk => up_cg (fun _ => up_cg (fun _ => h3 p hp k hk)), fun p hp => ?_⟩
  by_cases e : p = q
  · subst e
    rw [up_n (show 820 + 8 * p + 3 ≠ 820 + 8 * p + 5 by omega), up_s]
    exact ⟨fun _ => by rw [up_s, up_s], fun e => absurd e (by decide)⟩
  · rw [up_n (show 820 + 8 * p + 3 ≠ 820 + 8 * q + 5 by omega), up_n (show 820 + 8 * p + 3 ≠ 820 + 8 * q + 3 by omega)]
    exact ⟨fun e => up_cg (fun _ => up_cg (fun _ => (h4 p hp).1 e)), fun e => up_cg (fun _ => up_cg (fun _ => (h4 p hp).2 e))⟩
theorem Rl.st3 (h : Rl n nC v w) {q : Nat} {x : Int32} (hq : q < n) (hs : w (820 + 8 * q + 3) = nI 2) : Rl n nC (up (up v (820 + 8 * q + 3) (nI 3)) (820 + 8 * q + 6) x) (up (up w (820 + 8 * q + 3) (nI 3)) (820 + 8 * q + 6) x) := by
  obtain ⟨h1, h2, h3, h4⟩ := h
  refine ⟨fun j hj => up_cg (fun _ => up_cg (fun _ => h1 j hj)), fun c hc k hk => up_cg (fun _ => up_cg (fun _ => h2 c hc k hk)), fun p hp k hk => up_cg (fun _ => up_cg (fun _ => h3 p hp k hk)), fun p hp => ?_⟩
  by_cases e : p = q
  · subst e
    refine ⟨fun _ => ?_, fun _ => by rw [up_s, up_s]⟩
    rw [up_n (by omega), up_n (by omega), up_n (by omega), up_n (by omega)]
    exact (h4 p hp).1 (Or.inl hs)
  · rw [up_n (show 820 + 8 * p + 3 ≠ 820 + 8 * q + 6 by omega), up_n (show 820 + 8 * p + 3 ≠ 820 + 8 * q + 3 by omega)]
    exact ⟨fun e => up_cg (fun _ => up_cg (fun _ => (h4 p hp).1 e)), fun e => up_cg (fun _ => up_cg (fun _ => (h4 p hp).2 e))⟩
theorem Rl.g1 (h : Rl n nC v w) {i : Nat} (hi : i < 10 ∨ (100 ≤ i ∧ i < 820) ∨ 1300 ≤ i) : v i = w i := h.1 i hi
theorem Rl.c1 (h : Rl n nC v w) {c k : Nat} (hc : c < nC) (hk : k < 20) : v (10 + 20 * c + k) = w (10 + 20 * c + k) := h.2.1 c hc k hk
theorem Rl.p1 (h : Rl n nC v w) {p k : Nat} (hp : p < n) (hk : k < 5) : v (820 + 8 * p + k) = w (820 + 8 * p + k) := h.2.2.1 p hp k hk
theorem Rl.sy (h : Rl n nC v w) : Rl n nC w v := ⟨fun i hi => (h.g1 hi).symm, fun c hc k hk => (h.c1 hc hk).symm, fun p hp k hk => (h.p1 hp hk).symm, fun p hp => by
  rw [h.p1 hp (show 3 < 5 by decide)]
  exact ⟨fun e => ((h.2.2.2 p hp).1 e).symm, fun e => ((h.2.2.2 p hp).2 e).symm⟩⟩
theorem Rl.tr {u : Nat → Int32} (h : Rl n nC u v) (h2 : Rl n nC v w) : Rl n nC u w := ⟨fun i hi => (h.g1 hi).trans (h2.g1 hi), fun c hc k hk => (h.c1 hc hk).trans (h2.c1 hc hk), fun p hp k hk => (h.p1 hp hk).trans (h2.p1 hp hk), fun p hp => by
  have e := h2.p1 hp (show 3 < 5 by decide)
  exact ⟨fun z => ((h.2.2.2 p hp).1 (by rw [e]; exact z)).trans ((h2.2.2.2 p hp).1 z), fun z => ((h.2.2.2 p hp).2 (by rw [e]; exact z)).trans ((h2.2.2.2 p hp).2 z)⟩⟩
/-- counts, ways -/
theorem cnt_cg {f g : Nat → Bool} : ∀ (m : Nat), (∀ p, p < m → f p = g p) → cnt f m = cnt g m
  | 0, _ => rfl
  | m + 1, h => by
    simp only [cnt]
    rw [cnt_cg m (fun p hp => h p (by omega)), h m (by omega)]
theorem Rl.cs1 (h : Rl n nC v w) (s : Nat) : cnt (stp v s) n = cnt (stp w s) n := cnt_cg n (fun p hp => by unfold stp; rw [h.p1 hp (by decide)])
theorem Rl.cr1 (h : Rl n nC v w) (s : Nat) (c : Int32) : cnt (rdp v s c) n = cnt (rdp w s c) n := cnt_cg n (fun p hp => by unfold rdp; rw [h.p1 hp (show 3 < 5 by decide), h.p1 hp (show 4 < 5 by decide)])
theorem Rl.way (h : Rl n nC v w) {p : Nat} (hp : p < n) : wayW v p = wayW w p := by
  unfold wayW
  rw [h.p1 hp (show 1 < 5 by decide), h.p1 hp (show 2 < 5 by decide)]
/-- what a rule tells -/
theorem evW_cg {k e : Nat} {fx : Nat → Int32} (h : ∀ i, 1300 ≤ i → v i = w i) : ∀ (q i : Nat) (pl : Nat → Int32) (top : Nat), evW v k fx e q i pl top = evW w k fx e q i pl top
  | 0, _, _, _ => rfl
  | q + 1, i, pl, top => by
    simp only [evW]
    have e1 : stS v k i = stS w k i := by unfold stS; rw [h _ (by omega)]
    have e2 : tpS v k i top = tpS w k i top := by unfold tpS; rw [e1]
    have e3 : plS v k fx i pl top = plS w k fx i pl top := by unfold plS; rw [e1, h _ (by omega)]
    rw [e2, e3, evW_cg h q]
theorem cdW_cg {k b e : Nat} {fx : Nat → Int32} (h : ∀ i, 1300 ≤ i → v i = w i) : cdW v k fx b e = cdW w k fx b e := by
  unfold cdW
  rw [evW_cg h]
theorem lnW_cg {r nl : Nat} {fx : Nat → Int32} (h : ∀ i, 1300 ≤ i → v i = w i) : ∀ (q i : Nat), lnW v r fx nl q i = lnW w r fx nl q i
  | 0, _ => rfl
  | q + 1, i => by
    have e1 : toW v r i = toW w r i := by unfold toW; rw [h _ (by omega)]
    have e2 : miW v r i = miW w r i := by unfold miW; rw [h _ (by omega)]
    have e3 : frW v r i = frW w r i := by unfold frW; rw [h _ (by omega)]
    simp only [lnW]
    rw [e1, e2, e3, h (1310 + (16 * r + i)) (by omega), cdW_cg h, cdW_cg h, lnW_cg h q]
theorem Rl.fc (h : Rl n nC v w) {p c : Nat} (hp : p < n) (hc : c < nC) : fcW v p c n = fcW w p c n := by
  funext s
  have e0 := h.p1 hp (show 0 < 5 by decide)
  have e1 := h.p1 hp (show 1 < 5 by decide)
  have c0 := h.c1 hc (show 0 < 20 by decide)
  have c1 := h.c1 hc (show 1 < 20 by decide)
  have c2 := h.c1 hc (show 2 < 20 by decide)
  have ew := h.way hp
  have g3 := h.g1 (i := 3) (by omega)
  have d1 := h.cr1 1 (nI c)
  have d2 := h.cr1 2 (nI c)
  unfold fcW
  rw [e0, e1, c0, c1, c2, ew, g3, d1, d2]
theorem Rl.tl (h : Rl n nC v w) {p c r nl : Nat} (hp : p < n) (hc : c < nC) : tlW v p c n r nl = tlW w p c n r nl := by
  unfold tlW
  rw [h.fc hp hc, lnW_cg (fun i hi => h.g1 (by omega))]
theorem Rl.n1 (h : Rl n nC v w) {p k : Nat} (hp : p < n) (hk : k < 5) : wN v (820 + 8 * p + k) = wN w (820 + 8 * p + k) := by
  unfold wN
  rw [h.p1 hp hk]
theorem Rl.bc (h : Rl n nC v w) {p rr nl f : Nat} (hp : p < n) (hPI : PI w n f) (hf : f ≤ 80) (hC : nC ≤ 4) : ∀ (q c : Nat) (best least : Int32), bcW v p n rr nl nC q c best least = bcW w p n rr nl nC q c best least
  | 0, _, _, _ => rfl
  | q + 1, c, best, least => by
    simp only [bcW]
    by_cases hc : c < nC
    · obtain ⟨a, b, a1, a2, a3, a4, -⟩ := hPI p hp
      have n1 : wN w (820 + 8 * p + 1) = a := by unfold wN; rw [a1, nI_clamp (by omega)]
      have n2 : wN w (820 + 8 * p + 2) = b := by unfold wN; rw [a2, nI_clamp (by omega)]
      rw [if_pos hc, if_pos hc, h.c1 hc (show 4 < 20 by decide), h.n1 hp (show 1 < 5 by decide), h.n1 hp (show 2 < 5 by decide), n1, n2, h.g1 (i := 100 + 80 * c + a) (by omega), h.g1 (i := 100 + 80 * c + b) (by omega), h.tl hp hc]
      simp only [h.bc hp hPI hf hC q]
    · rw [if_neg hc, if_neg hc]
end TA0

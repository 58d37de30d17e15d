set_option maxRecDepth 100000
/-! ===== seconds of people in the row of the reference ===== -/
section P05
variable {v w : Nat → Int32} {n nC f N : Nat}
/-- what the reference's row tells of one: second, state, in, behind, at the second N -/
def oP (N : Nat) (a s e l : Int32) : Prop := ∃ x st, (a = nI x ∧ x ≤ 9999) ∧ (s = nI st ∧ st ≤ 3) ∧ (0 < st → x ≤ N) ∧ (st < 2 → e = -1) ∧ (st < 3 → l = -1) ∧ (2 ≤ st → ∃ y, e = nI y ∧ x ≤ y ∧ y ≤ N ∧ (st = 3 → ∃ z, l = nI z ∧ y ≤ z ∧ z ≤ N))
def OI (w : Nat → Int32) (n N : Nat) : Prop := w 3 = nI N ∧ ∀ p, p < n → oP N (w (820 + 8 * p + 0)) (w (820 + 8 * p + 3)) (w (820 + 8 * p + 5)) (w (820 + 8 * p + 6))
theorem oP.mo {a s e l : Int32} {N' : Nat} (h : oP N a s e l) (hN : N ≤ N') : oP N' a s e l := by
  obtain ⟨x, st, h1, h2, h3, h4, h5, h6⟩ := h
  refine ⟨x, st, h1, h2, fun z => Nat.le_trans (h3 z) hN, h4, h5, fun z => ?_⟩
  obtain ⟨y, y1, y2, y3, y4⟩ := h6 z
  refine ⟨y, y1, y2, by omega, fun z => ?_⟩
  obtain ⟨q, q1, q2, q3⟩ := y4 z
  exact ⟨q, q1, q2, by omega⟩
theorem OI.up1 (h : OI w n N) {i : Nat} {x : Int32} (h3 : i ≠ 3) (hi : ∀ p, p < n → i ≠ 820 + 8 * p + 0 ∧ i ≠ 820 + 8 * p + 3 ∧ i ≠ 820 + 8 * p + 5 ∧ i ≠ 820 + 8 * p + 6) : OI (up w i x) n N := by
  refine ⟨(up_n (Ne.symm h3)).trans h.1, fun p hp => ?_⟩
  obtain ⟨a1, a2, a3, a4⟩ := hi p hp
  rw [up_n (Ne.symm a1), up_n (Ne.symm a2), up_n (Ne.symm a3), up_n (Ne.symm a4)]
  exact h.2 p hp
theorem OI.upl (h : OI w n N) {i : Nat} {x : Int32} (h3 : i ≠ 3) (hi : i < 820) : OI (up w i x) n N := h.up1 h3 (fun p _ => by omega)
theorem OI.st1 (h : OI w n N) {q : Nat} (hN : N < 2 ^ 30) (hs : w (820 + 8 * q + 3) = nI 0) (ht : w (820 + 8 * q + 0) = w 3) : OI (up w (820 + 8 * q + 3) (nI 1)) n N := by
  refine ⟨(up_n (by omega)).trans h.1, fun p hp => ?_⟩
  rw [up_n (show 820 + 8 * p + 0 ≠ 820 + 8 * q + 3 by omega), up_n (show 820 + 8 * p + 5 ≠ 820 + 8 * q + 3 by omega), up_n (show 820 + 8 * p + 6 ≠ 820 + 8 * q + 3 by omega)]
  by_cases e : p = q
  · subst e
    rw [up_s]
    obtain ⟨x, st, h1, h2, h3, h4, h5, h6⟩ := h.2 p hp
    have e0 : st = 0 := (nI_eq (by omega) (by omega)).mp (h2.1.symm.trans hs)
    have ex : x = N := (nI_eq (by omega) (by omega)).mp (h1.1.symm.trans (ht.trans h.1))
    subst e0
    exact ⟨x, 1, h1, ⟨rfl, by omega⟩, fun _ => by omega, fun _ => h4 (by omega), fun _ => h5 (by omega), fun z => by omega⟩
  · rw [up_n (by omega)]; exact h.2 p hp
theorem OI.st2 (h : OI w n N) {q : Nat} (hs : w (820 + 8 * q + 3) = nI 1) : OI (up (up w (820 + 8 * q + 3) (nI 2)) (820 + 8 * q + 5) (w 3)) n N := by
  refine ⟨(up_n (by omega)).trans ((up_n (by omega)).trans h.1), fun p hp => ?_⟩
  rw [up_n (show 820 + 8 * p + 0 ≠ 820 + 8 * q + 5 by omega), up_n (show 820 + 8 * p + 0 ≠ 820 + 8 * q + 3 by omega), up_n (show 820 + 8 * p + 3 ≠ 820 + 8 * q + 5 by omega), up_n (show 820 + 8 * p + 6 ≠ 820 + 8 * q + 5 by omega), up_n (show 820 + 8 * p + 6 ≠ 820 + 8 * q + 3 by omega)]
  by_cases e : p = q
  · subst e
    rw [up_s, up_s]
    obtain ⟨x, st, h1, h2, h3, h4, h5, h6⟩ := h.2 p hp
    have e0 : st = 1 := (nI_eq (by omega) (by omega)).mp (h2.1.symm.trans hs)
    subst e0
    exact ⟨x, 2, h1, ⟨rfl, by omega⟩, fun _ => h3 (by omega), fun z => by omega, fun _ => h5 (by omega), fun z => ⟨N, h.1, h3 (by omega), Nat.le_refl _, fun z => by omega⟩⟩
  · rw [up_n (by omega), up_n (by omega), up_n (by omega)]; exact h.2 p hp
theorem OI.st3 (h : OI w n N) {q : Nat} (hs : w (820 + 8 * q + 3) = nI 2) : OI (up (up w (820 + 8 * q + 3) (nI 3)) (820 + 8 * q + 6) (w 3)) n N := by
  refine ⟨(up_n (by omega)).trans ((up_n (by omega)).trans h.1), fun p hp => ?_⟩
  rw [up_n (show 820 + 8 * p + 0 ≠ 820 + 8 * q + 6 by omega), up_n (show 820 + 8 * p + 0 ≠ 820 + 8 * q + 3 by omega), up_n (show 820 + 8 * p + 3 ≠ 820 + 8 * q + 6 by omega), up_n (show 820 + 8 * p + 5 ≠ 820 + 8 * q + 6 by omega), up_n (show 820 + 8 * p + 5 ≠ 820 + 8 * q + 3 by omega)]
  by_cases e : p = q
  · subst e
    rw [up_s, up_s]
    obtain ⟨x, st, h1, h2, h3, h4, h5, h6⟩ := h.2 p hp
    have e0 : st = 2 := (nI_eq (by omega) (by omega)).mp (h2.1.symm.trans hs)
    subst e0
    obtain ⟨y, y1, y2, y3, -⟩ := h6 (by omega)
    exact ⟨x, 3, h1, ⟨rfl, by omega⟩, fun _ => h3 (by omega), fun z => by omega, fun z => by omega, fun z => ⟨y, y1, y2, y3, fun _ => ⟨N, h.1, y3, Nat.le_refl _⟩⟩⟩
  · rw [up_n (by omega), up_n (by omega), up_n (by omega)]; exact h.2 p hp
theorem OI_goW {c : Nat} : ∀ (k i : Nat) (w : Nat → Int32) (m : Nat), OI w n N → OI (goW c n k i w m).1 n N
  | 0, _, _, _, h => h
  | k + 1, i, w, m, h => by
    rw [goW]
    by_cases e : i < n
    · rw [if_pos e]
      by_cases e2 : w (820 + 8 * i + 3) = nI 2 ∧ w (820 + 8 * i + 4) = nI c ∧ w (820 + 8 * i + 2) = w (10 + 20 * c + 0)
      · rw [if_pos e2]; exact OI_goW k _ _ _ (h.st3 e2.1)
      · rw [if_neg e2]; exact OI_goW k _ _ _ h
    · rw [if_neg e]; exact h
theorem OI_giW {pr : Int32} {ps c : Nat} (hc : c < 4) (hps : ps < 80) : ∀ (k i : Nat) (w : Nat → Int32) (m r : Nat), OI w n N → OI (giW pr ps c n k i w m r).1 n N
  | 0, _, _, _, _, h => h
  | k + 1, i, w, m, r, h => by
    rw [giW]
    by_cases e : i < n
    · rw [if_pos e]
      by_cases e1 : nI r < w (10 + 20 * c + 6)
      · rw [if_pos e1]
        by_cases e2 : w (820 + 8 * i + 3) = nI 1 ∧ w (820 + 8 * i + 4) = nI c ∧ w (820 + 8 * i + 1) = w (10 + 20 * c + 0) ∧ wayW w i = w (10 + 20 * c + 1)
        · rw [if_pos e2]
          refine OI_giW hc hps k _ _ _ _ ?_
          by_cases e3 : nI i = pr
          · rw [if_pos e3]; exact (h.st2 e2.1).upl (by omega) (by omega)
          · rw [if_neg e3]; exact h.st2 e2.1
        · rw [if_neg e2]; exact OI_giW hc hps k _ _ _ _ h
      · rw [if_neg e1]; exact h
    · rw [if_neg e]; exact h
theorem OI_stW {c nn : Nat} {S : Prop} [Decidable S] (h : OI w n N) (hc : c < 4) : OI (stW c nn S w) n N := by
  unfold stW
  split <;> (try split) <;> exact (h.upl (by omega) (by omega)).upl (by omega) (by omega)
theorem OI_lkW {pr : Int32} {ps c a f : Nat} (h : OI w n N) (hc : c < 4) (hps : ps < 80) (ha : a < 80) : OI (lkW pr ps c n a f w) n N := by
  have h1 := OI_goW (c := c) (n + 1) 0 w 0 h
  unfold lkW lk1 lk2
  refine OI_stW (OI.upl (OI_giW hc hps _ _ _ _ _ ?_) (by omega) (by omega)) hc
  split
  · exact h1.upl (by omega) (by omega)
  · exact h1
theorem OI_csW {pr : Int32} {ps c f : Nat} (h : OI w n N) (hc : c < 4) (hps : ps < 80) (hf : f ≤ 80) (hv : CV w c f) : OI (csW pr ps c n f w) n N := by
  obtain ⟨⟨a, a1, a2⟩, -, h3, -⟩ := hv
  have hfl : flW w c = a := by unfold flW; rw [a2, nI_clamp (by omega)]
  unfold csW
  split
  · exact h
  · split
    · exact OI_lkW h hc hps (by omega)
    · split
      · exact h.upl (by omega) (by omega)
      · split
        · rename_i e
          obtain ⟨b, b1, b2⟩ := h3 e
          rw [b2, nI_clamp (by omega)]
          exact OI_lkW ((h.upl (by omega) (by omega)).upl (by omega) (by omega)) hc hps (by omega)
        · exact OI_lkW (h.upl (by omega) (by omega)) hc hps (by omega)
theorem OI_s1W (hN : N < 2 ^ 30) : ∀ (k i : Nat) (w : Nat → Int32), OI w n N → OI (s1W n k i w) n N
  | 0, _, _, h => h
  | k + 1, i, w, h => by
    rw [s1W]
    by_cases e : i < n
    · rw [if_pos e]
      refine OI_s1W hN k _ _ ?_
      split
      · rename_i e2
        split
        · rename_i e3; exact h.st1 hN e2 e3
        · exact h
      · exact h
    · rw [if_neg e]; exact h
theorem OI_s2W {tr : Option (Nat → Int32)} {rr nl : Nat} : ∀ (k i : Nat) (w : Nat → Int32), OI w n N → OI (s2W tr n rr nl nC k i w) n N
  | 0, _, _, h => h
  | k + 1, i, w, h => by
    rw [s2W]
    by_cases e : i < n
    · rw [if_pos e]
      refine OI_s2W k _ _ ?_
      split
      · split
        · unfold gcW
          split <;> exact h.up1 (by omega) (fun p hp => by omega)
        · exact h
      · exact h
    · rw [if_neg e]; exact h
theorem OI_s3W {pr : Int32} {ps rr nl : Nat} (hb : Bd n f rr nC) (hps : ps < 80) : ∀ (k c : Nat) (w : Nat → Int32), WS w n f rr nl nC → OI w n N → OI (s3W pr ps n f nC k c w) n N
  | 0, _, _, _, h => h
  | k + 1, c, w, hW, h => by
    obtain ⟨b1, b2, b3, b4⟩ := hb
    rw [s3W]
    by_cases e : c < nC
    · rw [if_pos e]
      exact OI_s3W ⟨b1, b2, b3, b4⟩ hps k _ _ (csW_WS ⟨b1, b2, b3, b4⟩ hps e hW) (OI_csW h (by omega) hps b2 (hW.2 c e))
    · rw [if_neg e]; exact h
theorem s12_WS {tr : Option (Nat → Int32)} {rr nl : Nat} (hb : Bd n f rr nC) (hW : WS w n f rr nl nC) : WS (s2W tr n rr nl nC (n + 1) 0 (s1W n (n + 1) 0 w)) n f rr nl nC := by
  have hC := hb.2.2.2
  have hN := hb.1
  have h1 : WS (s1W n (n + 1) 0 w) n f rr nl nC := ⟨WB_fr hb hW.1 (fun j hj => s1W_fr (fun q _ => by rcases hj with h | h | h | h | h | ⟨q1, hq1, h | h⟩ <;> omega) _ _ _), fun c hc => CV_fr (hW.2 c hc) (fun q hq => s1W_fr (fun q2 _ => by omega) _ _ _)⟩
  exact ⟨WB_fr hb h1.1 (fun j hj => s2W_fr (fun q _ => by rcases hj with h | h | h | h | h | ⟨q1, hq1, h | h⟩ <;> omega) _ _ _), fun c hc => CV_fr (h1.2 c hc) (fun q hq => s2W_fr (fun q2 _ => by omega) _ _ _)⟩
theorem OI_secW {tr : Option (Nat → Int32)} {pr : Int32} {ps rr nl : Nat} (hb : Bd n f rr nC) (hps : ps < 80) (hN : N < 2 ^ 30) (hW : WS w n f rr nl nC) (h : OI w n N) : OI (secW tr pr ps n f rr nl nC w) n (N + 1) := by
  have h3 := OI_s3W (pr := pr) hb hps (nC + 1) 0 _ (s12_WS (tr := tr) hb hW) (OI_s2W (tr := tr) (rr := rr) (nl := nl) (nC := nC) (n + 1) 0 _ (OI_s1W hN (n + 1) 0 w h))
  unfold secW
  refine ⟨?_, fun p hp => ?_⟩
  · rw [up_s, h3.1, nI_add]
  · rw [up_n (by omega), up_n (by omega), up_n (by omega), up_n (by omega)]
    exact (h3.2 p hp).mo (by omega)
theorem OI_edW {tr : Option (Nat → Int32)} {pr : Int32} {ps rr nl wi : Nat} (hb : Bd n f rr nC) (hps : ps < 80) : ∀ (q j : Nat) (w : Nat → Int32) (N : Nat), N + q < 2 ^ 30 → WS w n f rr nl nC → OI w n N → ∃ N', N ≤ N' ∧ N' ≤ N + q ∧ OI (edW (secW tr pr ps n f rr nl nC) n wi q j w).1 n N'
  | 0, j, w, N, _, _, h => ⟨N, Nat.le_refl _, by omega, h⟩
  | q + 1, j, w, N, hN, hW, h => by
    rw [edW]
    split
    · split
      · obtain ⟨N', a1, a2, a3⟩ := OI_edW hb hps q (j + 1) _ (N + 1) (by omega) (secW_WS (tr := tr) (pr := pr) hb hps hW) (OI_secW hb hps (by omega) hW h)
        exact ⟨N', by omega, by omega, a3⟩
      · exact ⟨N, Nat.le_refl _, by omega, h⟩
    · exact ⟨N, Nat.le_refl _, by omega, h⟩
theorem OI_itW {tr : Option (Nat → Int32)} {pr : Int32} {ps rr nl : Nat} (hb : Bd n f rr nC) (hps : ps < 80) : ∀ (m : Nat) (w : Nat → Int32) (N : Nat), N + m < 2 ^ 30 → WS w n f rr nl nC → OI w n N → OI (itW (secW tr pr ps n f rr nl nC) m w) n (N + m)
  | 0, w, N, _, _, h => h
  | m + 1, w, N, hN, hW, h => by
    rw [itW]
    have := OI_itW (tr := tr) (pr := pr) hb hps m _ (N + 1) (by omega) (secW_WS (tr := tr) (pr := pr) hb hps hW) (OI_secW hb hps (by omega) hW h)
    rwa [show N + 1 + m = N + (m + 1) by omega] at this
theorem ovW_OI (h : OI w n N) (hN : N < 30000) (hn : n ≤ 60) (hall : cnt (stp w 3) n = n) : ∀ (k i x : Nat), i ≤ n → x ≤ 30000 * i → ∃ y, y ≤ 30000 * 60 ∧ ovW w (-1) n k i (nI x) = nI y
  | 0, i, x, hi, hx => ⟨x, by omega, rfl⟩
  | k + 1, i, x, hi, hx => by
    rw [ovW]
    by_cases e : i < n
    · rw [if_pos e, if_neg (nI_nm (show i < 1000 by omega))]
      obtain ⟨a, st, h1, h2, h3, h4, h5, h6⟩ := h.2 i e
      have hs : w (820 + 8 * i + 3) = nI 3 := of_decide_eq_true (cnt_all n hall i e)
      have e0 : st = 3 := (nI_eq (by omega) (by omega)).mp (h2.1.symm.trans hs)
      obtain ⟨y, y1, y2, y3, y4⟩ := h6 (by omega)
      obtain ⟨z, z1, z2, z3⟩ := y4 e0
      rw [z1, h1.1, pk_sub (by omega), nI_add]
      exact ovW_OI h hN hn hall k (i + 1) (x + (z - a)) (by omega) (by omega)
    · rw [if_neg e]; exact ⟨x, by omega, rfl⟩
end P05

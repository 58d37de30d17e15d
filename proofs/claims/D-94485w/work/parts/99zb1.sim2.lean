set_option maxRecDepth 100000
section TA1
variable {n nC : Nat} {v w : Nat → Int32}
theorem Rl.tO1 (h : Rl n nC v w) {c p : Nat} (hp : p < n) : tO v c p = tO w c p := by
  unfold tO
  rw [h.p1 hp (show 4 < 5 by decide), h.p1 hp (show 3 < 5 by decide), h.p1 hp (show 2 < 5 by decide), h.p1 hp (show 1 < 5 by decide)]
theorem Rl.nb (h : Rl n nC v w) {c a : Nat} {u : Bool} : ∀ (k i : Nat) (b : Option Nat), nb1 v c a u n k i b = nb1 w c a u n k i b
  | 0, _, _ => rfl
  | k + 1, i, b => by
    simp only [nb1]
    by_cases hi : i < n
    · rw [if_pos hi, if_pos hi, h.tO1 hi, h.nb k]
    · rw [if_neg hi, if_neg hi]
theorem Rl.nu (h : Rl n nC v w) {c a f : Nat} {u : Bool} {b : Option Nat} (hc : c < 4) (ha : a < 80) (hf : f ≤ 80) : ∀ (k q : Nat), nu2 v c a u f b k q = nu2 w c a u f b k q
  | 0, _ => rfl
  | k + 1, q => by
    simp only [nu2]
    by_cases hq : q < hi u a f
    · have hb : fN u a q < 80 := by
        unfold hi at hq
        unfold fN
        by_cases hu : u = true
        · rw [if_pos hu] at hq ⊢; omega
        · rw [if_neg hu] at hq ⊢; omega
      rw [if_pos hq, if_pos hq, h.g1 (i := 420 + 80 * c + fN u a q) (by omega), h.nu hc ha hf k]
    · rw [if_neg hq, if_neg hq]
theorem Rl.nr (h : Rl n nC v w) {c a f : Nat} {u : Bool} (hc : c < 4) (ha : a < 80) (hf : f ≤ 80) : nrW v c a u f n = nrW w c a u f n := by
  unfold nrW
  rw [h.nb, h.nu hc ha hf]
theorem Rl.fh (h : Rl n nC v w) {c : Nat} (hc : c < nC) : ∀ (k i : Nat), fhW v c n k i = fhW w c n k i
  | 0, _ => rfl
  | k + 1, i => by
    simp only [fhW]
    by_cases hi : i < n
    · rw [if_pos hi, if_pos hi, h.p1 hi (show 3 < 5 by decide), h.p1 hi (show 4 < 5 by decide), h.p1 hi (show 1 < 5 by decide), h.c1 hc (show 0 < 20 by decide), h.fh hc k]
    · rw [if_neg hi, if_neg hi]
theorem Rl.nw (h : Rl n nC v w) {c : Nat} {fh : Int32} {u dn : Option Nat} (hc : c < nC) (hn : n ≤ 60) (hfh : fh = -1 ∨ ∃ j, j < n ∧ fh = nI j) : nwW v c fh u dn = nwW w c fh u dn := by
  unfold nwW
  rcases hfh with e | ⟨j, hj, e⟩
  · rw [if_pos e, if_pos e, h.c1 hc (show 5 < 20 by decide), h.c1 hc (show 0 < 20 by decide)]
  · rw [e, nI_clamp (by omega), h.way hj, h.c1 hc (show 5 < 20 by decide), h.c1 hc (show 0 < 20 by decide)]
theorem goW_Rl {c : Nat} (hc : c < nC) : ∀ (k i : Nat) (v w : Nat → Int32) (m : Nat), Rl n nC v w → Rl n nC (goW c n k i v m).1 (goW c n k i w m).1 ∧ (goW c n k i v m).2 = (goW c n k i w m).2
  | 0, _, _, _, _, h => ⟨h, rfl⟩
  | k + 1, i, v, w, m, h => by
    simp only [goW]
    by_cases hi : i < n
    · rw [if_pos hi, if_pos hi, h.p1 hi (show 3 < 5 by decide), h.p1 hi (show 4 < 5 by decide), h.p1 hi (show 2 < 5 by decide), h.c1 hc (show 0 < 20 by decide), h.g1 (i := 3) (by omega)]
      by_cases ht : w (820 + 8 * i + 3) = nI 2 ∧ w (820 + 8 * i + 4) = nI c ∧ w (820 + 8 * i + 2) = w (10 + 20 * c + 0)
      · rw [if_pos ht, if_pos ht]
        exact goW_Rl hc k (i + 1) _ _ _ (h.st3 hi ht.1)
      · rw [if_neg ht, if_neg ht]
        exact goW_Rl hc k (i + 1) _ _ _ h
    · rw [if_neg hi, if_neg hi]
      exact ⟨h, rfl⟩
theorem giW_Rl {pr : Int32} {ps c : Nat} (hc : c < nC) (hC : nC ≤ 4) (hps : ps < 80) : ∀ (k i : Nat) (v w : Nat → Int32) (m r : Nat), Rl n nC v w → Rl n nC (giW pr ps c n k i v m r).1 (giW pr ps c n k i w m r).1 ∧ (giW pr ps c n k i v m r).2 = (giW pr ps c n k i w m r).2
  | 0, _, _, _, _, _, h => ⟨h, rfl⟩
  | k + 1, i, v, w, m, r, h => by
    simp only [giW]
    by_cases hi : i < n
    · rw [if_pos hi, if_pos hi, h.c1 hc (show 6 < 20 by decide), h.p1 hi (show 3 < 5 by decide), h.p1 hi (show 4 < 5 by decide), h.p1 hi (show 1 < 5 by decide), h.way hi, h.c1 hc (show 0 < 20 by decide), h.c1 hc (show 1 < 20 by decide), h.g1 (i := 3) (by omega)]
      by_cases hr : nI r < w (10 + 20 * c + 6)
      · rw [if_pos hr, if_pos hr]
        by_cases ht : w (820 + 8 * i + 3) = nI 1 ∧ w (820 + 8 * i + 4) = nI c ∧ w (820 + 8 * i + 1) = w (10 + 20 * c + 0) ∧ wayW w i = w (10 + 20 * c + 1)
        · rw [if_pos ht, if_pos ht]
          by_cases hp : nI i = pr
          · rw [if_pos hp, if_pos hp]
            exact giW_Rl hc hC hps k (i + 1) _ _ _ _ ((h.st2 hi).up1 (fun p _ => by omega))
          · rw [if_neg hp, if_neg hp]
            exact giW_Rl hc hC hps k (i + 1) _ _ _ _ (h.st2 hi)
        · rw [if_neg ht, if_neg ht]
          exact giW_Rl hc hC hps k (i + 1) _ _ _ _ h
      · rw [if_neg hr, if_neg hr]
        exact ⟨h, rfl⟩
    · rw [if_neg hi, if_neg hi]
      exact ⟨h, rfl⟩
theorem stW_Rl {c nn : Nat} {S S' : Prop} [Decidable S] [Decidable S'] (h : Rl n nC v w) (hc : c < nC) (hC : nC ≤ 4) (e : S ↔ S') : Rl n nC (stW c nn S v) (stW c nn S' w) := by
  have e1 : (if S then nI 2 else if v (10 + 20 * c + 1) = 0 then nI 0 else nI 1) = (if S' then nI 2 else if w (10 + 20 * c + 1) = 0 then nI 0 else nI 1) := by
    rw [h.c1 hc (show 1 < 20 by decide)]
    by_cases s : S
    · rw [if_pos s, if_pos (e.mp s)]
    · rw [if_neg s, if_neg (fun z => s (e.mpr z))]
  have e2 : (if S then v (10 + 20 * c + 8) + nI nn * v (10 + 20 * c + 9) else if v (10 + 20 * c + 1) = 0 then nI 0 else v (10 + 20 * c + 7)) = (if S' then w (10 + 20 * c + 8) + nI nn * w (10 + 20 * c + 9) else if w (10 + 20 * c + 1) = 0 then nI 0 else w (10 + 20 * c + 7)) := by
    rw [h.c1 hc (show 1 < 20 by decide), h.c1 hc (show 8 < 20 by decide), h.c1 hc (show 9 < 20 by decide), h.c1 hc (show 7 < 20 by decide)]
    by_cases s : S
    · rw [if_pos s, if_pos (e.mp s)]
    · rw [if_neg s, if_neg (fun z => s (e.mpr z))]
  unfold stW
  rw [e1, e2]
  exact (h.up1 (fun p _ => by omega)).up1 (fun p _ => by omega)
theorem lk2_Rl {pr : Int32} {ps c a n1 : Nat} (h : Rl n nC v w) (hc : c < nC) (hC : nC ≤ 4) (hps : ps < 80) (ha : a < 80) : Rl n nC (lk2 pr ps c n a n1 v) (lk2 pr ps c n a n1 w) := by
  obtain ⟨g1, g2⟩ := giW_Rl (pr := pr) hc hC hps (n + 1) 0 v w 0 (cnt (rdp w 2 (nI c)) n) h
  unfold lk2
  rw [h.cr1 2 (nI c), g2]
  refine stW_Rl (g1.up1 (fun p _ => by omega)) hc hC ?_
  rw [g1.g1 (i := 420 + 80 * c + a) (by omega)]
theorem lk1_Rl {pr : Int32} {ps c a f n1 : Nat} (h : Rl n nC v w) (hc : c < nC) (hC : nC ≤ 4) (hps : ps < 80) (ha : a < 80) (hf : f ≤ 80) (hn : n ≤ 60) : Rl n nC (lk1 pr ps c n a f n1 v) (lk1 pr ps c n a f n1 w) := by
  unfold lk1
  rw [h.c1 hc (show 1 < 20 by decide), h.nr (by omega) ha hf, h.nr (by omega) ha hf, h.nr (by omega) ha hf, h.fh hc, h.nw hc hn (fhW_or (n + 1) 0)]
  refine lk2_Rl ?_ hc hC hps ha
  split
  · exact h.up1 (fun p _ => by omega)
  · exact h
theorem lkW_Rl {pr : Int32} {ps c a f : Nat} (h : Rl n nC v w) (hc : c < nC) (hC : nC ≤ 4) (hps : ps < 80) (ha : a < 80) (hf : f ≤ 80) (hn : n ≤ 60) : Rl n nC (lkW pr ps c n a f v) (lkW pr ps c n a f w) := by
  obtain ⟨g1, g2⟩ := goW_Rl hc (n + 1) 0 v w 0 h
  unfold lkW
  rw [g2]
  exact lk1_Rl g1 hc hC hps ha hf hn
theorem csW_Rl {pr : Int32} {ps c f : Nat} (h : Rl n nC v w) (hc : c < nC) (hC : nC ≤ 4) (hps : ps < 80) (hf : f ≤ 80) (hn : n ≤ 60) (hcv : CV w c f) : Rl n nC (csW pr ps c n f v) (csW pr ps c n f w) := by
  obtain ⟨⟨a, ha, hfl⟩, -, hgo, -⟩ := hcv
  have ef : flW w c = a := by rw [flW, hfl, nI_clamp (by omega)]
  have ef2 : flW v c = a := by rw [flW, h.c1 hc (show 0 < 20 by decide), hfl, nI_clamp (by omega)]
  unfold csW
  rw [ef, ef2, h.c1 hc (show 4 < 20 by decide), h.c1 hc (show 2 < 20 by decide), h.c1 hc (show 3 < 20 by decide), h.c1 hc (show 0 < 20 by decide), h.c1 hc (show 1 < 20 by decide)]
  split
  · exact h
  · split
    · exact lkW_Rl h hc hC hps (by omega) hf hn
    · split
      · exact h.up1 (fun p _ => by omega)
      · split
        · rename_i hz
          obtain ⟨a2, ha2, e2⟩ := hgo hz
          exact lkW_Rl ((h.up1 (fun p _ => by omega)).up1 (fun p _ => by omega)) hc hC hps (by rw [e2, nI_clamp (by omega)]; omega) hf hn
        · exact lkW_Rl (h.up1 (fun p _ => by omega)) hc hC hps (by omega) hf hn
theorem s1W_Rl : ∀ (k i : Nat) (v w : Nat → Int32), Rl n nC v w → Rl n nC (s1W n k i v) (s1W n k i w)
  | 0, _, _, _, h => h
  | k + 1, i, v, w, h => by
    simp only [s1W]
    by_cases hi : i < n
    · rw [if_pos hi, if_pos hi, h.p1 hi (show 3 < 5 by decide), h.p1 hi (show 0 < 5 by decide), h.g1 (i := 3) (by omega)]
      refine s1W_Rl k (i + 1) _ _ ?_
      split
      · split
        · exact h.st1 hi
        · exact h
      · exact h
    · rw [if_neg hi, if_neg hi]
      exact h
theorem gcW_Rl {tr : Option (Nat → Int32)} {p rr nl f : Nat} (h : Rl n nC v w) (hp : p < n) (hPI : PI w n f) (hf : f ≤ 80) (hC : nC ≤ 4) : Rl n nC (gcW tr p n rr nl nC v) (gcW tr p n rr nl nC w) := by
  unfold gcW
  cases tr with
  | some q => exact h.up1 (fun p _ => by omega)
  | none =>
    simp only
    rw [h.bc hp hPI hf hC]
    exact h.up1 (fun p _ => by omega)
theorem s2W_Rl {tr : Option (Nat → Int32)} {rr nl f : Nat} (hf : f ≤ 80) (hC : nC ≤ 4) : ∀ (k i : Nat) (v w : Nat → Int32), PI w n f → Rl n nC v w → Rl n nC (s2W tr n rr nl nC k i v) (s2W tr n rr nl nC k i w)
  | 0, _, _, _, _, h => h
  | k + 1, i, v, w, hP, h => by
    simp only [s2W]
    by_cases hi : i < n
    · rw [if_pos hi, if_pos hi, h.p1 hi (show 3 < 5 by decide), h.p1 hi (show 4 < 5 by decide)]
      by_cases h3 : w (820 + 8 * i + 3) = nI 1
      · rw [if_pos h3, if_pos h3]
        by_cases h4 : w (820 + 8 * i + 4) = -1
        · rw [if_pos h4, if_pos h4]
          exact s2W_Rl hf hC k (i + 1) _ _ (PI_fr hP (fun p hp => ⟨gcW_fr (by omega), gcW_fr (by omega)⟩)) (gcW_Rl h hi hP hf hC)
        · rw [if_neg h4, if_neg h4]
          exact s2W_Rl hf hC k (i + 1) _ _ hP h
      · rw [if_neg h3, if_neg h3]
        exact s2W_Rl hf hC k (i + 1) _ _ hP h
    · rw [if_neg hi, if_neg hi]
      exact h
theorem csW_WS {pr : Int32} {ps f rr nl c : Nat} (hb : Bd n f rr nC) (hps : ps < 80) (hc : c < nC) (h : WS w n f rr nl nC) : WS (csW pr ps c n f w) n f rr nl nC := by
  have h1 := s3W_WS (pr := pr) hb hps 1 c w h
  simp only [s3W, if_pos hc] at h1
  exact h1
theorem s3W_Rl {pr : Int32} {ps f rr nl : Nat} (hb : Bd n f rr nC) (hps : ps < 80) : ∀ (k c : Nat) (v w : Nat → Int32), WS w n f rr nl nC → Rl n nC v w → Rl n nC (s3W pr ps n f nC k c v) (s3W pr ps n f nC k c w)
  | 0, _, _, _, _, h => h
  | k + 1, c, v, w, hW, h => by
    simp only [s3W]
    by_cases hc : c < nC
    · rw [if_pos hc, if_pos hc]
      exact s3W_Rl hb hps k (c + 1) _ _ (csW_WS hb hps hc hW) (csW_Rl h hc hb.2.2.2 hps hb.2.1 hb.1 (hW.2 c hc))
    · rw [if_neg hc, if_neg hc]
      exact h
/-- a second keeps two rows the same -/
theorem secW_Rl {tr : Option (Nat → Int32)} {pr : Int32} {ps f rr nl : Nat} (hb : Bd n f rr nC) (hps : ps < 80) (hW : WS w n f rr nl nC) (h : Rl n nC v w) : Rl n nC (secW tr pr ps n f rr nl nC v) (secW tr pr ps n f rr nl nC w) := by
  have hC := hb.2.2.2
  have hN := hb.1
  have h1 : WS (s1W n (n + 1) 0 w) n f rr nl nC := ⟨WB_fr hb hW.1 (fun j hj => s1W_fr (fun q _ => by rcases hj with h | h | h | h | h | ⟨q1, hq1, h | h⟩ <;> omega) _ _ _), fun c hc => CV_fr (hW.2 c hc) (fun q hq => s1W_fr (fun q2 _ => by omega) _ _ _)⟩
  have h2 : WS (s2W tr n rr nl nC (n + 1) 0 (s1W n (n + 1) 0 w)) n f rr nl nC := ⟨WB_fr hb h1.1 (fun j hj => s2W_fr (fun q _ => by rcases hj with h | h | h | h | h | ⟨q1, hq1, h | h⟩ <;> omega) _ _ _), fun c hc => CV_fr (h1.2 c hc) (fun q hq => s2W_fr (fun q2 _ => by omega) _ _ _)⟩
  have r3 := s3W_Rl (pr := pr) hb hps (nC + 1) 0 _ _ h2 (s2W_Rl (tr := tr) (rr := rr) (nl := nl) hb.2.1 hC (n + 1) 0 _ _ h1.1.2.2.2.2.2 (s1W_Rl (n + 1) 0 v w h))
  unfold secW
  rw [r3.g1 (i := 3) (by omega)]
  exact r3.up1 (fun p _ => by omega)
theorem itW_Rl {tr : Option (Nat → Int32)} {pr : Int32} {ps f rr nl : Nat} (hb : Bd n f rr nC) (hps : ps < 80) : ∀ (m : Nat) (v w : Nat → Int32), WS w n f rr nl nC → Rl n nC v w → Rl n nC (itW (secW tr pr ps n f rr nl nC) m v) (itW (secW tr pr ps n f rr nl nC) m w)
  | 0, _, _, _, h => h
  | m + 1, v, w, hW, h => itW_Rl hb hps m _ _ (secW_WS hb hps hW) (secW_Rl hb hps hW h)
theorem edW_Rl {tr : Option (Nat → Int32)} {pr : Int32} {ps f rr nl wi : Nat} (hb : Bd n f rr nC) (hps : ps < 80) : ∀ (q j : Nat) (v w : Nat → Int32), WS w n f rr nl nC → Rl n nC v w → Rl n nC (edW (secW tr pr ps n f rr nl nC) n wi q j v).1 (edW (secW tr pr ps n f rr nl nC) n wi q j w).1 ∧ (edW (secW tr pr ps n f rr nl nC) n wi q j v).2 = (edW (secW tr pr ps n f rr nl nC) n wi q j w).2
  | 0, _, _, _, _, h => ⟨h, rfl⟩
  | q + 1, j, v, w, hW, h => by
    simp only [edW]
    rw [h.cs1 3]
    by_cases h1 : cnt (stp w 3) n < n
    · rw [if_pos h1, if_pos h1]
      by_cases h2 : j < wi
      · rw [if_pos h2, if_pos h2]
        exact edW_Rl hb hps q (j + 1) _ _ (secW_WS hb hps hW) (secW_Rl hb hps hW h)
      · rw [if_neg h2, if_neg h2]
        exact ⟨h, rfl⟩
    · rw [if_neg h1, if_neg h1]
      exact ⟨h, rfl⟩
end TA1

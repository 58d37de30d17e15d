set_option maxRecDepth 100000
/-! ===== cars that are out ===== -/
section P08
variable {v w : Nat → Int32} {n nC f N : Nat}
/-- what only moves cars and people keeps: by the steps of a car's second -/
theorem csW_ind {P : (Nat → Int32) → Prop} {ps c : Nat} (hn : n ≤ 60) (hf : f ≤ 80) (hcar : ∀ w k x, k < 4 → P w → P (up w (10 + 20 * c + k) x)) (hfu : ∀ w i, i < 80 → P w → P (up w (420 + 80 * c + i) (nI 0))) (hgo : ∀ w p, p < n → w (820 + 8 * p + 3) = nI 2 → P w → P (up (up w (820 + 8 * p + 3) (nI 3)) (820 + 8 * p + 6) (w 3))) (hgi : ∀ w p, p < n → w (820 + 8 * p + 3) = nI 1 → P w → P (up (up w (820 + 8 * p + 3) (nI 2)) (820 + 8 * p + 5) (w 3))) (hv : CV w c f) (h : P w) : P (csW (-1) ps c n f w) := by
  have go : ∀ (k i : Nat) (w : Nat → Int32) (m : Nat), P w → P (goW c n k i w m).1 := by
    intro k
    induction k with
    | zero => intro i w m h; exact h
    | succ k ih =>
      intro i w m h
      rw [goW]
      by_cases e : i < n
      · rw [if_pos e]
        split
        · rename_i e2; exact ih _ _ _ (hgo w i e e2.1 h)
        · exact ih _ _ _ h
      · rw [if_neg e]; exact h
  have gi : ∀ (k i : Nat) (w : Nat → Int32) (m r : Nat), P w → P (giW (-1) ps c n k i w m r).1 := by
    intro k
    induction k with
    | zero => intro i w m r h; exact h
    | succ k ih =>
      intro i w m r h
      rw [giW]
      by_cases e : i < n
      · rw [if_pos e]
        split
        · split
          · rename_i e2
            refine ih _ _ _ _ ?_
            rw [if_neg (nI_nm (show i < 1000 by omega))]
            exact hgi w i e e2.1 h
          · exact ih _ _ _ _ h
        · exact h
      · rw [if_neg e]; exact h
  have lk : ∀ (a : Nat) (w : Nat → Int32), a < 80 → P w → P (lkW (-1) ps c n a f w) := by
    intro a w ha h
    have h1 := go (n + 1) 0 w 0 h
    unfold lkW lk1 lk2 stW
    refine hcar _ 3 _ (by omega) (hcar _ 2 _ (by omega) (hfu _ _ ha (gi _ _ _ _ _ ?_)))
    split
    · exact hcar _ 1 _ (by omega) h1
    · exact h1
  obtain ⟨⟨a, a1, a2⟩, -, h3, -⟩ := hv
  have hfl : flW w c = a := by unfold flW; rw [a2, nI_clamp (by omega)]
  unfold csW
  split
  · exact h
  · split
    · exact lk _ _ (by omega) h
    · split
      · exact hcar _ 3 _ (by omega) h
      · split
        · rename_i e
          obtain ⟨b, b1, b2⟩ := h3 e
          rw [b2, nI_clamp (by omega)]
          exact lk _ _ (by omega) (hcar _ 0 _ (by omega) (hcar _ 3 _ (by omega) h))
        · exact lk _ _ (by omega) (hcar _ 3 _ (by omega) h)
/-- a car that is out stands, and nobody waits for it; who has not come yet has no car -/
def OU (w : Nat → Int32) (n nC : Nat) : Prop := (∀ p, p < n → w (820 + 8 * p + 3) = nI 0 → w (820 + 8 * p + 4) = -1) ∧ ∀ c, c < nC → w (10 + 20 * c + 4) = nI 1 → (w (10 + 20 * c + 1) = nI 0 ∧ w (10 + 20 * c + 2) = nI 0 ∧ w (10 + 20 * c + 3) = nI 0) ∧ ∀ p, p < n → w (820 + 8 * p + 3) = nI 1 → ¬ w (820 + 8 * p + 4) = nI c
def FZ (w : Nat → Int32) : Prop := ∀ i, 420 ≤ i → i < 740 → w i = 0
theorem OU_up {i : Nat} {x : Int32} (h : OU w n nC) (hC : nC ≤ 4) (hn : n ≤ 60) (hi : (i < 10 ∨ 90 ≤ i) ∧ (i < 820 ∨ 1300 ≤ i)) : OU (up w i x) n nC := by
  refine ⟨fun p hp => ?_, fun c hc => ?_⟩
  · rw [up_n (by omega), up_n (by omega)]; exact h.1 p hp
  · rw [up_n (by omega), up_n (by omega), up_n (by omega), up_n (by omega)]
    intro e
    refine ⟨(h.2 c hc e).1, fun p hp => ?_⟩
    rw [up_n (by omega), up_n (by omega)]
    exact (h.2 c hc e).2 p hp
theorem OU_cs {ps c : Nat} (hn : n ≤ 60) (hc : c < nC) (hC : nC ≤ 4) (hf : f ≤ 80) (hv : CV w c f) (h : OU w n nC) (hz : FZ w) : OU (csW (-1) ps c n f w) n nC ∧ FZ (csW (-1) ps c n f w) := by
  by_cases ho : w (10 + 20 * c + 4) = nI 1
  · unfold csW
    rw [if_pos ho]
    exact ⟨h, hz⟩
  · refine (csW_ind (P := fun w => (OU w n nC ∧ FZ w) ∧ ¬ w (10 + 20 * c + 4) = nI 1) hn hf ?_ ?_ ?_ ?_ hv ⟨⟨h, hz⟩, ho⟩).1
    · rintro w k x hk ⟨⟨h, hz⟩, ho⟩
      refine ⟨⟨⟨fun p hp => ?_, fun d hd => ?_⟩, fun i h1 h2 => (up_n (by omega)).trans (hz i h1 h2)⟩, by rw [up_n (by omega)]; exact ho⟩
      · rw [up_n (by omega), up_n (by omega)]; exact h.1 p hp
      · rw [up_n (by omega)]
        intro e
        have hdc : d ≠ c := fun z => ho (z ▸ e)
        rw [up_n (by omega), up_n (by omega), up_n (by omega)]
        refine ⟨(h.2 d hd e).1, fun p hp => ?_⟩
        rw [up_n (by omega), up_n (by omega)]
        exact (h.2 d hd e).2 p hp
    · rintro w i hi ⟨⟨h, hz⟩, ho⟩
      refine ⟨⟨OU_up h hC hn (by omega), fun j h1 h2 => ?_⟩, by rw [up_n (by omega)]; exact ho⟩
      by_cases e : j = 420 + 80 * c + i
      · subst e; rw [up_s]; rfl
      · rw [up_n e]; exact hz j h1 h2
    · rintro w q hq hs ⟨⟨h, hz⟩, ho⟩
      refine ⟨⟨⟨fun p hp => ?_, fun d hd => ?_⟩, fun i h1 h2 => (up_n (by omega)).trans ((up_n (by omega)).trans (hz i h1 h2))⟩, by rw [up_n (by omega), up_n (by omega)]; exact ho⟩
      · rw [up_n (show 820 + 8 * p + 4 ≠ 820 + 8 * q + 6 by omega), up_n (show 820 + 8 * p + 4 ≠ 820 + 8 * q + 3 by omega), up_n (show 820 + 8 * p + 3 ≠ 820 + 8 * q + 6 by omega)]
        by_cases e : p = q
        · subst e; rw [up_s]; intro z; exact absurd z (by decide)
        · rw [up_n (by omega)]; exact h.1 p hp
      · rw [up_n (by omega), up_n (by omega), up_n (by omega), up_n (by omega), up_n (by omega), up_n (by omega), up_n (by omega), up_n (by omega)]
        intro e
        refine ⟨(h.2 d hd e).1, fun p hp => ?_⟩
        rw [up_n (show 820 + 8 * p + 4 ≠ 820 + 8 * q + 6 by omega), up_n (show 820 + 8 * p + 4 ≠ 820 + 8 * q + 3 by omega), up_n (show 820 + 8 * p + 3 ≠ 820 + 8 * q + 6 by omega)]
        by_cases e2 : p = q
        · subst e2; rw [up_s]; intro z; exact absurd z (by decide)
        · rw [up_n (by omega)]; exact (h.2 d hd e).2 p hp
    · rintro w q hq hs ⟨⟨h, hz⟩, ho⟩
      refine ⟨⟨⟨fun p hp => ?_, fun d hd => ?_⟩, fun i h1 h2 => (up_n (by omega)).trans ((up_n (by omega)).trans (hz i h1 h2))⟩, by rw [up_n (by omega), up_n (by omega)]; exact ho⟩
      · rw [up_n (show 820 + 8 * p + 4 ≠ 820 + 8 * q + 5 by omega), up_n (show 820 + 8 * p + 4 ≠ 820 + 8 * q + 3 by omega), up_n (show 820 + 8 * p + 3 ≠ 820 + 8 * q + 5 by omega)]
        by_cases e : p = q
        · subst e; rw [up_s]; intro z; exact absurd z (by decide)
        · rw [up_n (by omega)]; exact h.1 p hp
      · rw [up_n (by omega), up_n (by omega), up_n (by omega), up_n (by omega), up_n (by omega), up_n (by omega), up_n (by omega), up_n (by omega)]
        intro e
        refine ⟨(h.2 d hd e).1, fun p hp => ?_⟩
        rw [up_n (show 820 + 8 * p + 4 ≠ 820 + 8 * q + 5 by omega), up_n (show 820 + 8 * p + 4 ≠ 820 + 8 * q + 3 by omega), up_n (show 820 + 8 * p + 3 ≠ 820 + 8 * q + 5 by omega)]
        by_cases e2 : p = q
        · subst e2; rw [up_s]; intro z; exact absurd z (by decide)
        · rw [up_n (by omega)]; exact (h.2 d hd e).2 p hp
theorem OU_s1 (hn : n ≤ 60) (hC : nC ≤ 4) : ∀ (k i : Nat) (w : Nat → Int32), OU w n nC → OU (s1W n k i w) n nC
  | 0, _, _, h => h
  | k + 1, i, w, h => by
    rw [s1W]
    by_cases e : i < n
    · rw [if_pos e]
      refine OU_s1 hn hC k _ _ ?_
      split
      · rename_i e2
        split
        · refine ⟨fun p hp => ?_, fun d hd => ?_⟩
          · rw [up_n (show 820 + 8 * p + 4 ≠ 820 + 8 * i + 3 by omega)]
            by_cases ep : p = i
            · subst ep; intro _; exact h.1 p hp e2
            · rw [up_n (by omega)]; exact h.1 p hp
          · rw [up_n (by omega), up_n (by omega), up_n (by omega), up_n (by omega)]
            intro eo
            refine ⟨(h.2 d hd eo).1, fun p hp => ?_⟩
            rw [up_n (show 820 + 8 * p + 4 ≠ 820 + 8 * i + 3 by omega)]
            by_cases ep : p = i
            · subst ep
              intro _
              rw [h.1 p hp e2]
              exact fun z => nI_nm (show d < 1000 by omega) z.symm
            · rw [up_n (by omega)]; exact (h.2 d hd eo).2 p hp
        · exact h
      · exact h
    · rw [if_neg e]; exact h
theorem bcW_out {p rr nl : Nat} (hC : nC ≤ 4) : ∀ (k c : Nat) (best least : Int32), (∀ d, d < nC → w (10 + 20 * d + 4) = nI 1 → ¬ best = nI d) → ∀ d, d < nC → w (10 + 20 * d + 4) = nI 1 → ¬ bcW w p n rr nl nC k c best least = nI d
  | 0, _, _, _, h => h
  | k + 1, c, best, least, h => by
    intro d hd hw
    rw [bcW]
    by_cases e : c < nC
    · rw [if_pos e]
      have hnew : ∀ (x : Int32), ¬ w (10 + 20 * c + 4) = nI 1 → ¬ bcW w p n rr nl nC k (c + 1) (nI c) x = nI d := fun x ho => bcW_out hC k (c + 1) _ _ (fun d2 hd2 hw2 z => by
        have : c = d2 := (nI_eq (by omega) (by omega)).mp z
        subst this
        exact ho hw2) d hd hw
      have hold : ∀ (x : Int32), ¬ bcW w p n rr nl nC k (c + 1) best x = nI d := fun x => bcW_out hC k (c + 1) _ _ h d hd hw
      split
      · rename_i e2
        split
        · exact hold _
        · split
          · exact hnew _ e2.1
          · exact hold _
      · exact hold _
    · rw [if_neg e]; exact h d hd hw
theorem OU_s2 {rr nl : Nat} (hn : n ≤ 60) (hC : nC ≤ 4) : ∀ (k i : Nat) (w : Nat → Int32), OU w n nC → OU (s2W none n rr nl nC k i w) n nC
  | 0, _, _, h => h
  | k + 1, i, w, h => by
    rw [s2W]
    by_cases e : i < n
    · rw [if_pos e]
      refine OU_s2 hn hC k _ _ ?_
      split
      · rename_i e2
        split
        · show OU (up w (820 + 8 * i + 4) _) n nC
          refine ⟨fun p hp => ?_, fun d hd => ?_⟩
          · rw [up_n (show 820 + 8 * p + 3 ≠ 820 + 8 * i + 4 by omega)]
            by_cases ep : p = i
            · subst ep; intro z; rw [e2] at z; exact absurd z (by decide)
            · rw [up_n (by omega)]; exact h.1 p hp
          · rw [up_n (by omega), up_n (by omega), up_n (by omega), up_n (by omega)]
            intro eo
            refine ⟨(h.2 d hd eo).1, fun p hp => ?_⟩
            rw [up_n (show 820 + 8 * p + 3 ≠ 820 + 8 * i + 4 by omega)]
            by_cases ep : p = i
            · subst ep
              intro _
              rw [up_s]
              exact bcW_out hC _ _ _ _ (fun d2 hd2 _ z => nI_nm (show d2 < 1000 by omega) z.symm) d hd eo
            · rw [up_n (by omega)]; exact (h.2 d hd eo).2 p hp
        · exact h
      · exact h
    · rw [if_neg e]; exact h
theorem OU_s3 {ps rr nl : Nat} (hb : Bd n f rr nC) (hps : ps < 80) : ∀ (k c : Nat) (w : Nat → Int32), WS w n f rr nl nC → OU w n nC → FZ w → OU (s3W (-1) ps n f nC k c w) n nC ∧ FZ (s3W (-1) ps n f nC k c w)
  | 0, _, _, _, h, hz => ⟨h, hz⟩
  | k + 1, c, w, hW, h, hz => by
    rw [s3W]
    by_cases e : c < nC
    · rw [if_pos e]
      have h2 := OU_cs (ps := ps) hb.1 e hb.2.2.2 hb.2.1 (hW.2 c e) h hz
      exact OU_s3 hb hps k _ _ (csW_WS hb hps e hW) h2.1 h2.2
    · rw [if_neg e]; exact ⟨h, hz⟩
theorem OU_sec {ps rr nl : Nat} (hb : Bd n f rr nC) (hps : ps < 80) (hW : WS w n f rr nl nC) (h : OU w n nC) (hz : FZ w) : OU (secW none (-1) ps n f rr nl nC w) n nC ∧ FZ (secW none (-1) ps n f rr nl nC w) := by
  have hC := hb.2.2.2
  have hN := hb.1
  have z1 : FZ (s2W none n rr nl nC (n + 1) 0 (s1W n (n + 1) 0 w)) := fun i h1 h2 => (s2W_fr (fun p _ => by omega) _ _ _).trans ((s1W_fr (fun p _ => by omega) _ _ _).trans (hz i h1 h2))
  have h3 := OU_s3 hb hps (nC + 1) 0 _ (s12_WS (tr := none) hb hW) (OU_s2 (rr := rr) (nl := nl) hN hC (n + 1) 0 _ (OU_s1 hN hC (n + 1) 0 w h)) z1
  unfold secW
  exact ⟨OU_up h3.1 hC hN (by omega), fun i a b => (up_n (by omega)).trans (h3.2 i a b)⟩
theorem OU_it {ps rr nl : Nat} (hb : Bd n f rr nC) (hps : ps < 80) : ∀ (m : Nat) (w : Nat → Int32), WS w n f rr nl nC → OU w n nC → FZ w → OU (itW (secW none (-1) ps n f rr nl nC) m w) n nC ∧ FZ (itW (secW none (-1) ps n f rr nl nC) m w)
  | 0, w, _, h, hz => ⟨h, hz⟩
  | m + 1, w, hW, h, hz => by
    rw [itW]
    have h2 := OU_sec hb hps hW h hz
    exact OU_it hb hps m _ (secW_WS hb hps hW) h2.1 h2.2
end P08

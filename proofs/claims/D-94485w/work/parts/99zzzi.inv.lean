set_option maxRecDepth 100000
/-! ===== the row in order; one, seconds ===== -/
section P09
variable {v w : Nat → Int32} {n nC f N : Nat}
/-- the reference's row is in order -/
def JW (w : Nat → Int32) (n f nC N : Nat) : Prop := GI w n f nC ∧ BI w f nC ∧ WI w f ∧ (OI w n N ∧ N ≤ 19999) ∧ OU w n nC ∧ FZ w
theorem GI_Rl (h : Rl n nC v w) (hG : GI w n f nC) : GI v n f nC := by
  obtain ⟨hb, h0, h1, h2, ⟨r, hr, h4⟩, hp, hc, hrv⟩ := hG
  obtain ⟨b1, b2, b3⟩ := hb
  refine ⟨⟨b1, b2, b3⟩, (h.g1 (by omega)).trans h0, (h.g1 (by omega)).trans h1, (h.g1 (by omega)).trans h2, ⟨r, hr, (h.g1 (by omega)).trans h4⟩, PI_fr hp (fun p hp => ⟨h.p1 hp (by decide), h.p1 hp (by decide)⟩), fun c hc2 => CV_fr (hc c hc2) (fun k hk => h.c1 hc2 (by omega)), fun r hr => ?_⟩
  rw [nlW_Rl h]
  exact RV_fr hr (fun i hi => h.g1 (by omega)) (hrv r hr)
theorem BI_Rl (h : Rl n nC v w) (hB : BI w f nC) : BI v f nC := BI_fr hB (fun i hi => by
  rcases hi with hi | hi | hi | ⟨c, hc, hi⟩
  · exact h.g1 (by omega)
  · exact h.g1 (by omega)
  · exact h.g1 (by omega)
  · subst hi; exact h.c1 hc (by decide))
theorem FZ_Rl (h : Rl n nC v w) (hz : FZ w) : FZ v := fun i h1 h2 => (h.g1 (by omega)).trans (hz i h1 h2)
theorem WI_Rl (h : Rl n nC v w) (hf : f ≤ 80) (hW : WI w f) : WI v f := WI_cg h.wt hf hW
theorem GI_fr {w' : Nat → Int32} (hG : GI w n f nC) (h4 : ∃ r, r < 3 ∧ w' 4 = nI r) (e : ∀ i, (i = 0 ∨ i = 1 ∨ i = 2 ∨ 1300 ≤ i ∨ ∃ p, p < n ∧ (i = 820 + 8 * p + 1 ∨ i = 820 + 8 * p + 2)) → w' i = w i) (hcv : ∀ c, c < nC → CV w' c f) : GI w' n f nC := by
  obtain ⟨hb, h0, h1, h2, -, hp, -, hrv⟩ := hG
  refine ⟨hb, (e 0 (by omega)).trans h0, (e 1 (by omega)).trans h1, (e 2 (by omega)).trans h2, h4, PI_fr hp (fun p hp => ⟨e _ (by right; right; right; right; exact ⟨p, hp, Or.inl rfl⟩), e _ (by right; right; right; right; exact ⟨p, hp, Or.inr rfl⟩)⟩), hcv, fun r hr => ?_⟩
  rw [nlW_fr (fun i hi => e i (by omega))]
  exact RV_fr hr (fun i hi => e i (by omega)) (hrv r hr)
/-- seconds -/
theorem itW_fr0 {ps rr nl j : Nat} (hb : Bd n f rr nC) (hps : ps < 80) (hj : Stc n nC j) (m : Nat) (w : Nat → Int32) (hW : WS w n f rr nl nC) : itW (secW none (-1) ps n f rr nl nC) m w j = w j := by
  have h := itW_fr (T := fun a k => if a = 0 ∧ k = 29 then -1 else 0) (nl := nl) hb hps hj m w hW
  have e : sdW (fun a k => if a = 0 ∧ k = 29 then -1 else 0) ps n f rr nl nC = secW none (-1) ps n f rr nl nC := by
    funext x
    unfold sdW trO
    rw [if_pos (by rfl)]; rfl
  rwa [e] at h
theorem JW_it {ps r : Nat} (h : JW w n f nC N) (hr : r < 3) (h4 : w 4 = nI r) (hps : ps < 80) (m : Nat) (hm : N + m ≤ 19999) : JW (itW (secW none (-1) ps n f r (nlW w r) nC) m w) n f nC (N + m) := by
  obtain ⟨hG, hB, hW, ⟨hO, hN⟩, hU, hZ⟩ := h
  have hn := hG.1.1
  have hf := hG.1.2.1
  have hC := hG.1.2.2
  have hws := hG.ws hr h4
  have hb := hG.bd (r := r) hr
  have fr : ∀ j, Stc n nC j → itW (secW none (-1) ps n f r (nlW w r) nC) m w j = w j := fun j hj => itW_fr0 hb hps hj m w hws
  have hws2 : WS (itW (secW none (-1) ps n f r (nlW w r) nC) m w) n f r (nlW w r) nC := by
    have : ∀ (m : Nat) (w' : Nat → Int32), WS w' n f r (nlW w r) nC → WS (itW (secW none (-1) ps n f r (nlW w r) nC) m w') n f r (nlW w r) nC := by
      intro m
      induction m with
      | zero => intro w' h; exact h
      | succ m ih => intro w' h; rw [itW]; exact ih _ (secW_WS hb hps h)
    exact this m w hws
  have st : ∀ j, (j < 10 ∧ j ≠ 3) ∨ (90 ≤ j ∧ j < 420) ∨ (740 ≤ j ∧ j < 820) ∨ 1300 ≤ j → Stc n nC j := fun j hj => ⟨by omega, fun c hc k hk => by omega, by omega, fun p hp => by omega⟩
  refine ⟨GI_fr hG ⟨r, hr, (fr 4 (st 4 (by omega))).trans h4⟩ (fun i hi => ?_) hws2.2, BI_fr hB (fun i hi => ?_), fun i hi => ?_, ⟨OI_itW hb hps m w N (by omega) hws hO, hm⟩, (OU_it hb hps m w hws hU hZ).1, (OU_it hb hps m w hws hU hZ).2⟩
  · refine fr i ?_
    rcases hi with hi | hi | hi | hi | ⟨p, hp, hi⟩
    · exact st i (by omega)
    · exact st i (by omega)
    · exact st i (by omega)
    · exact st i (by omega)
    · exact ⟨by omega, fun c hc k hk => by omega, by omega, fun q hq => by omega⟩
  · refine fr i ?_
    rcases hi with hi | hi | hi | ⟨c, hc, hi⟩
    · exact st i (by omega)
    · exact st i (by omega)
    · exact st i (by omega)
    · exact ⟨by omega, fun c hc k hk => by omega, by omega, fun q hq => by omega⟩
  · rw [fr (740 + i) (st _ (by omega))]
    exact hW i hi
theorem sc_law {T : tT} {ps qs r : Nat} {x : Int32} (h : JW w n f nC N) (hR : Rl n nC v w) (hr : r < 3) (h4 : w 4 = nI r) (h28 : T 0 28 = 0) (h29 : T 0 29 = -1) : (scQ (secW none (-1) qs n f r (nlW v r) nC) n x v).1 = (scQ (sdW T ps n f r (nlW w r) nC) n x w).1 ∧ ∃ N', JW (scQ (sdW T ps n f r (nlW w r) nC) n x w).2 n f nC N' ∧ Rl n nC (scQ (secW none (-1) qs n f r (nlW v r) nC) n x v).2 (scQ (sdW T ps n f r (nlW w r) nC) n x w).2 := by
  have hn := h.1.1.1
  have hb := h.1.bd (r := r) hr
  rw [sdW_0 hn h28 h29, nlW_Rl hR, secW_ps (ps := qs) (qs := 0) hn]
  unfold scQ
  by_cases h1 : nI 1 ≤ x ∧ x ≤ nI 600
  · rw [if_pos h1, if_pos h1, hR.g1 (i := 3) (by omega)]
    obtain ⟨m, m1, m2, rfl⟩ := nI_between (by decide) h1 (by decide)
    have e3 : w 3 = nI N := h.2.2.2.1.1.1
    have hN := h.2.2.2.1.2
    rw [e3, nI_add]
    by_cases h2 : nI 19999 < nI (N + m)
    · rw [if_pos h2, if_pos h2]
      exact ⟨rfl, N, h, hR⟩
    · rw [if_neg h2, if_neg h2, nI_clamp (by omega)]
      have hm : N + m ≤ 19999 := by
        have := mt (nI_ltI (a := 19999) (b := N + m) (by omega) (by omega)).mpr h2
        omega
      have r2 := itW_Rl (tr := none) (pr := -1) (ps := 0) (nl := nlW w r) hb (by omega) m v w (h.1.ws hr h4) hR
      refine ⟨?_, N + m, JW_it h hr h4 (by omega) m hm, r2⟩
      show nI _ - nI _ = nI _ - nI _
      rw [r2.cs1 3, hR.cs1 3]
  · rw [if_neg h1, if_neg h1]
    exact ⟨rfl, N, h, hR⟩
/-- one -/
theorem one_law {a b c : Int32} (h : JW w n f nC N) (hR : Rl n nC v w) : (onC v n f a b c).1 = (onQ w a b c).1 ∧ ((onQ w a b c).2 = w ∧ (onC v n f a b c).2 = v ∨ JW (onQ w a b c).2 (n + 1) f nC N ∧ Rl (n + 1) nC (onC v n f a b c).2 (onQ w a b c).2 ∧ n + 1 ≤ 60) := by
  obtain ⟨hG, hB, hW, ⟨hO, hN⟩, hU, hZ⟩ := h
  have hG2 := hG
  obtain ⟨⟨b1, b2, b3⟩, e0, e1, e2, ⟨r, hr, e4⟩, hp, hcv, hrv⟩ := hG2
  unfold onC onQ
  rw [hR.g1 (i := 3) (by omega), e0, e2]
  by_cases h1 : w 3 ≤ a ∧ a ≤ nI 9999
  · rw [if_pos h1]
    by_cases h2 : nI 0 ≤ b ∧ b ≤ nI f - nI 1
    · rw [if_pos h2]
      by_cases h3 : nI 0 ≤ c ∧ c ≤ nI f - nI 1
      · rw [if_pos h3]
        by_cases h4 : b = c
        · rw [if_pos h4, if_neg (fun z => z.2.2.2.1 h4)]; exact ⟨rfl, Or.inl ⟨rfl, rfl⟩⟩
        · rw [if_neg h4]
          by_cases h5 : nI n = nI 60
          · rw [if_pos h5, if_neg (fun z => z.2.2.2.2 ((nI_eq (by omega) (by omega)).mp h5))]; exact ⟨rfl, Or.inl ⟨rfl, rfl⟩⟩
          · have hn60 : ¬ n = 60 := fun z => h5 (by rw [z])
            rw [if_neg h5, if_pos ⟨h1, h2, h3, h4, hn60⟩]
            refine ⟨rfl, Or.inr ⟨?_, ?_, by omega⟩⟩
            · show JW (cmW w (wN w 2) a b c) (n + 1) f nC N
              have en : wN w 2 = n := by unfold wN; rw [e2, nI_clamp (by omega)]
              rw [en]
              have h1' : nI N ≤ a ∧ a ≤ nI 9999 := by rw [← hO.1]; exact h1
              obtain ⟨x, x1, x2, rfl⟩ := nI_between (by decide) h1' (by omega)
              obtain ⟨y, y1, rfl⟩ := inC (by omega) h2
              obtain ⟨z, z1, rfl⟩ := inC (by omega) h3
              have fr : ∀ i, i ≠ 2 → ¬ (820 + 8 * n ≤ i ∧ i < 820 + 8 * n + 7) → cmW w n (nI x) (nI y) (nI z) i = w i := fun i i1 i2 => by
                unfold cmW
                rw [up_n i1, up_n (by omega), up_n (by omega), up_n (by omega), up_n (by omega), up_n (by omega), up_n (by omega), up_n (by omega)]
              have c0 : cmW w n (nI x) (nI y) (nI z) (820 + 8 * n + 0) = nI x := by
                unfold cmW
                rw [up_n (by omega), up_n (by omega), up_n (by omega), up_n (by omega), up_n (by omega), up_n (by omega), up_n (by omega), up_s]
              have c1 : cmW w n (nI x) (nI y) (nI z) (820 + 8 * n + 1) = nI y := by
                unfold cmW
                rw [up_n (by omega), up_n (by omega), up_n (by omega), up_n (by omega), up_n (by omega), up_n (by omega), up_s]
              have c2 : cmW w n (nI x) (nI y) (nI z) (820 + 8 * n + 2) = nI z := by
                unfold cmW
                rw [up_n (by omega), up_n (by omega), up_n (by omega), up_n (by omega), up_n (by omega), up_s]
              have c3 : cmW w n (nI x) (nI y) (nI z) (820 + 8 * n + 3) = nI 0 := by
                unfold cmW
                rw [up_n (by omega), up_n (by omega), up_n (by omega), up_n (by omega), up_s]
              have c4 : cmW w n (nI x) (nI y) (nI z) (820 + 8 * n + 4) = -1 := by
                unfold cmW
                rw [up_n (by omega), up_n (by omega), up_n (by omega), up_s]
              have c5 : cmW w n (nI x) (nI y) (nI z) (820 + 8 * n + 5) = -1 := by
                unfold cmW
                rw [up_n (by omega), up_n (by omega), up_s]
              have c6 : cmW w n (nI x) (nI y) (nI z) (820 + 8 * n + 6) = -1 := by
                unfold cmW
                rw [up_n (by omega), up_s]
              refine ⟨⟨⟨by omega, b2, b3⟩, (fr 0 (by omega) (by omega)).trans e0, (fr 1 (by omega) (by omega)).trans e1, by unfold cmW; exact up_s, ⟨r, hr, (fr 4 (by omega) (by omega)).trans e4⟩, fun p hp2 => ?_, fun d hd => CV_fr (hcv d hd) (fun k hk => fr _ (by omega) (by omega)), fun r hr => ?_⟩, BI_fr hB (fun i hi => ?_), fun i hi => ?_, ⟨⟨(fr 3 (by omega) (by omega)).trans hO.1, fun p hp2 => ?_⟩, hN⟩, ⟨fun p hp2 => ?_, fun d hd => ?_⟩, fun i i1 i2 => (fr i (by omega) (by omega)).trans (hZ i i1 i2)⟩
              · by_cases ep : p = n
                · subst ep
                  exact ⟨y, z, c1, c2, y1, z1, fun t => h4 (by rw [t])⟩
                · rw [fr _ (by omega) (by omega), fr _ (by omega) (by omega)]; exact hp p (by omega)
              · rw [nlW_fr (fun i hi => fr i (by omega) (by omega))]
                exact RV_fr hr (fun i hi => fr i (by omega) (by omega)) (hrv r hr)
              · rcases hi with hi | hi | hi | ⟨d, hd, hi⟩ <;> exact fr i (by omega) (by omega)
              · rw [fr _ (by omega) (by omega)]; exact hW i hi
              · by_cases ep : p = n
                · subst ep
                  rw [c0, c3, c5, c6]
                  exact ⟨x, 0, ⟨rfl, x2⟩, ⟨rfl, by omega⟩, fun t => by omega, fun _ => rfl, fun _ => rfl, fun t => by omega⟩
                · rw [fr _ (by omega) (by omega), fr _ (by omega) (by omega), fr _ (by omega) (by omega), fr _ (by omega) (by omega)]; exact hO.2 p (by omega)
              · by_cases ep : p = n
                · subst ep; intro _; exact c4
                · rw [fr _ (by omega) (by omega), fr _ (by omega) (by omega)]; exact hU.1 p (by omega)
              · rw [fr (10 + 20 * d + 4) (by omega) (by omega), fr (10 + 20 * d + 1) (by omega) (by omega), fr (10 + 20 * d + 2) (by omega) (by omega), fr (10 + 20 * d + 3) (by omega) (by omega)]
                intro eo
                refine ⟨(hU.2 d hd eo).1, fun p hp2 => ?_⟩
                by_cases ep : p = n
                · subst ep; intro t; rw [c3] at t; exact absurd t (by decide)
                · rw [fr _ (by omega) (by omega), fr _ (by omega) (by omega)]; exact (hU.2 d hd eo).2 p (by omega)
            · show Rl (n + 1) nC (up (isR v n a b c) 2 (nI (n + 1))) (cmW w (wN w 2) a b c)
              have en : wN w 2 = n := by unfold wN; rw [e2, nI_clamp (by omega)]
              rw [en]
              unfold isR cmW
              refine ⟨fun i hi => up_cg (fun i2 => ?_), fun d hd k hk => ?_, fun p hp2 k hk => ?_, fun p hp2 => ?_⟩
              · rw [up_n (by omega), up_n (by omega), up_n (by omega), up_n (by omega), up_n (by omega), up_n (by omega), up_n (by omega), up_n (by omega), up_n (by omega), up_n (by omega), up_n (by omega), up_n (by omega)]
                exact hR.g1 hi
              · rw [up_n (by omega), up_n (by omega), up_n (by omega), up_n (by omega), up_n (by omega), up_n (by omega), up_n (by omega), up_n (by omega), up_n (by omega), up_n (by omega), up_n (by omega), up_n (by omega), up_n (by omega), up_n (by omega)]
                exact hR.c1 hd hk
              · refine up_cg (fun _ => ?_)
                rw [up_n (w := up (up (up (up (up (up w _ _) _ _) _ _) _ _) _ _) _ _) (by omega), up_n (w := up (up (up (up (up w _ _) _ _) _ _) _ _) _ _) (by omega)]
                refine up_cg (fun h4 => up_cg (fun h3 => up_cg (fun h2 => up_cg (fun h1 => up_cg (fun h0 => ?_)))))
                refine hR.p1 ?_ hk
                rcases Nat.lt_or_ge p n with q | q
                · exact q
                · obtain rfl : p = n := by omega
                  omega
              · by_cases ep : p = n
                · subst ep
                  rw [up_n (show 820 + 8 * p + 3 ≠ 2 by omega), up_n (show 820 + 8 * p + 3 ≠ 820 + 8 * p + 6 by omega), up_n (show 820 + 8 * p + 3 ≠ 820 + 8 * p + 5 by omega), up_n (show 820 + 8 * p + 3 ≠ 820 + 8 * p + 4 by omega), up_s]
                  exact ⟨fun t => by rcases t with t | t <;> exact absurd t (by decide), fun t => absurd t (by decide)⟩
                · have q := hR.2.2.2 p (by omega)
                  have fw : ∀ k, k < 7 → up (up (up (up (up (up (up (up w (820 + 8 * n + 0) a) (820 + 8 * n + 1) b) (820 + 8 * n + 2) c) (820 + 8 * n + 3) (nI 0)) (820 + 8 * n + 4) (-1)) (820 + 8 * n + 5) (-1)) (820 + 8 * n + 6) (-1)) 2 (nI (n + 1)) (820 + 8 * p + k) = w (820 + 8 * p + k) := fun k hk => by
                    rw [up_n (by omega), up_n (by omega), up_n (by omega), up_n (by omega), up_n (by omega), up_n (by omega), up_n (by omega), up_n (by omega)]
                  have fv : ∀ k, k < 7 → up (up (up (up (up (up v (820 + 8 * n + 0) a) (820 + 8 * n + 1) b) (820 + 8 * n + 2) c) (820 + 8 * n + 3) (nI 0)) (820 + 8 * n + 4) (-1)) 2 (nI (n + 1)) (820 + 8 * p + k) = v (820 + 8 * p + k) := fun k hk => by
                    rw [up_n (by omega), up_n (by omega), up_n (by omega), up_n (by omega), up_n (by omega), up_n (by omega)]
                  rw [fw 3 (by omega), fw 5 (by omega), fw 6 (by omega), fv 5 (by omega), fv 6 (by omega)]
                  exact q
      · rw [if_neg h3, if_neg (fun z => h3 z.2.2.1)]; exact ⟨rfl, Or.inl ⟨rfl, rfl⟩⟩
    · rw [if_neg h2, if_neg (fun z => h2 z.2.1)]; exact ⟨rfl, Or.inl ⟨rfl, rfl⟩⟩
  · rw [if_neg h1, if_neg (fun z => h1 z.1)]; exact ⟨rfl, Or.inl ⟨rfl, rfl⟩⟩
end P09

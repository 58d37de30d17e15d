set_option maxRecDepth 100000
section T99ZM
variable {g : fc_G} {l : Launch} {M : fc_M} {S : tT} {U : tU} {π f nC n : Nat} {v w : Nat → Int32} {τ : Nat → Nat}
def lcC (f p q : Nat) (w : Nat → Int32) : Nat → Int32 := up (isR w p (nI 0) (nI (q / (f - 1))) (if q % (f - 1) < q / (f - 1) then nI (q % (f - 1)) else nI (q % (f - 1) + 1))) 2 (nI (p + 1))
theorem lcC_fr {p q i : Nat} (h2 : i ≠ 2) (hk : ∀ k, k < 5 → i ≠ 820 + 8 * p + k) : lcC f p q w i = w i := by
  unfold lcC isR
  rw [up_n h2, up_n (hk 4 (by decide)), up_n (hk 3 (by decide)), up_n (hk 2 (by decide)), up_n (hk 1 (by decide)), up_n (hk 0 (by decide))]
def mcW (S : tT) (π n f r m q kk : Nat) (v : Nat → Int32) : Nat → Int32 := if m = 2 then lcC f 1 (q % kk) (lcC f 0 (q / kk) (m0C S π n r v)) else lcC f 0 q (m0C S π n r v)
theorem mcW_fr {r m q kk i : Nat} (h2 : i ≠ 2) (hi : i < 820 ∨ 1300 ≤ i) : mcW S π n f r m q kk v i = m0C S π n r v i := by
  unfold mcW
  split
  · rw [lcC_fr h2 (fun k hk => by omega), lcC_fr h2 (fun k hk => by omega)]
  · rw [lcC_fr h2 (fun k hk => by omega)]
theorem mcW_Rl {r m q : Nat} (hC : nC ≤ 4) (hm : m = 1 ∨ m = 2) (hq : m = 1 → q < f * (f - 1)) (h : Rl 0 nC (m0C S π n r v) (mo0 nC (nI r) v)) : Rl (moN m) nC (mcW S π n f r m q (f * (f - 1)) v) (moW f nC m q r v) := by
  unfold mcW moW moN lcW
  by_cases h2 : m = 2
  · rw [if_pos h2, if_pos h2, if_pos h2]
    exact Rl_come hC (by decide) (Rl_come hC (by decide) h)
  · rw [if_neg h2, if_neg h2, if_neg h2, Nat.mod_eq_of_lt (hq (by omega))]
    exact Rl_come hC (by decide) h
def moP (v : Nat → Int32) (f nC m q r : Nat) : (Nat → Int32) × Nat := edW (secW none (-1) 0 (moN m) f r (nlW v r) nC) (moN m) 1000 1001 0 (moW f nC m q r v)
def moR (v : Nat → Int32) (f nC m q r : Nat) : Int32 := if cnt (stp (moP v f nC m q r).1 3) (moN m) = moN m then ovW (moP v f nC m q r).1 (-1) (moN m) (moN m + 1) 0 (nI 0) else 999999
def moX (S : tT) (π n : Nat) (v : Nat → Int32) (f nC m q r kk : Nat) : (Nat → Int32) × Nat := edW (secW none (-1) 0 (moN m) f r (nlW v r) nC) (moN m) 1000 1001 0 (mcW S π n f r m q kk v)
theorem plan_first (h : PC g M S π 32 f nC v) : ∀ c, c < nC → S (π + 5) c = v (10 + 20 * c + 10) := fun c hc => h.2.2.2.2.2.2.1 c hc 4 (by decide)
theorem moX_P {r m q : Nat} (h : TI g M S U π f nC n v) (hB : BI v f nC) (hfun : ∀ i, 420 ≤ i → i < 740 → v i = 0) (hr : r < 3) (hf2 : 2 ≤ f) (hm : m = 1 ∨ m = 2) (hq1 : m = 1 → q < f * (f - 1)) (hq2 : m = 2 → q < f * (f - 1) * (f * (f - 1))) : Rl (moN m) nC (moX S π n v f nC m q r (f * (f - 1))).1 (moP v f nC m q r).1 ∧ WS (mcW S π n f r m q (f * (f - 1)) v) (moN m) f r (nlW v r) nC ∧ Bd (moN m) f r nC := by
  have hC := hB.1.2
  have hR := mcW_Rl (f := f) (q := q) hC hm hq1 (m0C_Rl (n := n) (r := r) hC (plan_first h.2.1) hfun)
  obtain ⟨hW, hb⟩ := moW_WS (m := m) (q := q) hB hr hf2 hq2
  exact ⟨(edW_Rl hb (by decide) _ _ _ _ hW hR).1, WS_cg hb hR hW, hb⟩
theorem mo_run {r m q : Nat} (h : TI g M S U π f nC n v) (hR : RT g M S τ v) (hB : BI v f nC) (hfun : ∀ i, 420 ≤ i → i < 740 → v i = 0) (hr : r < 3) (hf2 : 2 ≤ f) (hm : m = 1 ∨ m = 2) (hq1 : m = 1 → q < f * (f - 1)) (hq2 : m = 2 → q < f * (f - 1) * (f * (f - 1))) : fc_CX g l yX3_toTheEnd cX3_toTheEnd 3 (some .int) 407 [.ref (fc_B g + 99), .int (nI 1000)] (cR (fc_put M 99 5 .null) (tu (clr S 32 v) 99 6 (-1)) (bgU 99 5 0 (bcU U 99 32)) 99 (mcW S π n f r m q (f * (f - 1)) v)) (cq_i (fc_put M 99 5 .null) (tu (clr S 32 v) 99 6 (-1)) (bgU 99 5 0 (bcU U 99 32)) 99 f (teR (moX S π n v f nC m q r (f * (f - 1))).1 (moN m) (moX S π n v f nC m q r (f * (f - 1))).2) (moX S π n v f nC m q r (f * (f - 1))).1) := by
  obtain ⟨-, hW, hb⟩ := moX_P h hB hfun hr hf2 hm hq1 hq2
  have hC := hB.1.2
  have hpl : ∀ i, plI i → mcW S π n f r m q (f * (f - 1)) v i = v i := fun i hi => by
    rw [mcW_fr (by rcases hi with e | e | ⟨c9, j9, g1, g2, e⟩ <;> omega) (by rcases hi with e | e | ⟨c9, j9, g1, g2, e⟩ <;> omega), m0C_at (by rcases hi with e | e | ⟨c9, j9, g1, g2, e⟩ <;> omega), if_neg (by rcases hi with e | e | ⟨c9, j9, g1, g2, e⟩ <;> omega), if_neg (by rcases hi with e | e | ⟨c9, j9, g1, g2, e⟩ <;> omega), if_neg (by rcases hi with e | e | ⟨c9, j9, g1, g2, e⟩ <;> omega), if_neg (by rcases hi with e | e | ⟨c9, j9, g1, g2, e⟩ <;> omega)]
  have hz : ∀ c, c < 4 → bgU 99 5 0 (bcU U 99 32) (99 + 63 + c) 6 = 0 ∧ bgU 99 5 0 (bcU U 99 32) (99 + 63 + c) 7 = 0 := fun c hc => ⟨by rw [bgU_at 5 0 _ (by omega) (by omega), if_pos (by omega)], by rw [bgU_at 5 0 _ (by omega) (by omega), if_pos (by omega)]⟩
  have hK : KI g (fc_put M 99 5 .null) (tu (clr S 32 v) 99 6 (-1)) (bgU 99 5 0 (bcU U 99 32)) π 99 f nC (moN m) r (nlW v r) 0 (mcW S π n f r m q (f * (f - 1)) v) := by
    refine ⟨PC_bec h (fun a k e => tS_lo (by omega)) hpl, hW, fun c hc q9 => ?_, ⟨Or.inl tS_6, by decide, ?_⟩, fun c hc => ?_⟩
    · rw [(hz c hc).1, (hz c hc).2]
      have e0 : b2 0 0 q9 = false := by
        unfold b2
        split <;> exact bt_0
      rw [e0]
      refine ⟨fun z => absurd z (by decide), fun z => ?_⟩
      exfalso
      have hf := hB.1.1
      have e1 := z.2
      rw [mcW_fr (by omega) (by omega), m0C_at (by omega), if_neg (by omega), if_neg (by omega), if_neg (by omega), if_neg (by omega), hfun _ (by omega) (by omega)] at e1
      exact absurd e1 (by decide)
    · rw [tS_6]
      exact JK_no hb.1
    · rw [mcW_fr (by omega) (by omega), m0C_at (by omega), if_neg (by omega), if_neg (by omega), if_neg (by omega), if_pos (by omega), show (10 + 20 * c + 4 - 10) % 20 = 4 by omega]
      exact Or.inl rfl
  have hT : TX g (fc_put M 99 5 .null) (tu (clr S 32 v) 99 6 (-1)) (τ r) (mcW S π n f r m q (f * (f - 1)) v) r (nlW v r) := TX_bec h.1.1 h.1.2 h.2.1.1 (fun a k _ e => tS_lo e) (fun i hi => by rw [mcW_fr (by omega) (by omega), m0C_at (by omega), if_neg (by omega), if_neg (by omega), if_neg (by omega), if_neg (by omega)]) (hR r hr).2
  have k := d_toEndR (l := l) (wi := 1000) (LT_put (v := .null) h.1.2) hb ((put_o (by decide)).trans (hR r hr).1) put_5 (by decide) hK hT
  rw [tS_6] at k
  exact k
theorem mo_fin {S2 : tT} {U2 : tU} {w2 : Nat → Int32} {r : Int32} (e4 : UF (bgU 99 5 0 (bcU U 99 32)) U2 99) (e5 : SF (tu (clr S 32 v) 99 6 (-1)) S2 99) (hv : clr S 32 v = S) : th_i M S U r (.returned (some (.int r))) (cR (fc_put M 99 5 .null) S2 U2 99 w2) :=
  ⟨rfl, .null, _, U2, rfl, fun a k h1 h2 => (clr_o (by omega)).trans ((e5 a k h1 (by omega)).trans ((if_neg (fun z => by omega)).trans (by rw [hv]))), fun a k h => (e4 a k (by omega)).trans (by rw [bgU_at 5 0 _ (by omega) (by omega), if_neg (by omega)]; exact if_neg (by omega))⟩
end T99ZM

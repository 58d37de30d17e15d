set_option maxRecDepth 100000
section T99ZJ
variable {g : fc_G} {l : Launch} {M : fc_M} {S S1 : tT} {U : tU} {π f nC n : Nat} {v w : Nat → Int32} {gv : Value} {τ : Nat → Nat}
theorem vt_up4 {r : Nat} (h4 : v 4 = nI r) : up (vtW S 99 n v) 4 (nI r) = vtW S 99 n v := funext fun i => by
  by_cases e : i = 4
  · subst e
    rw [up_s, vt_n (by omega), h4]
  · rw [up_n e]
theorem v_up4 {r : Nat} (h4 : v 4 = nI r) : up v 4 (nI r) = v := funext fun i => by
  by_cases e : i = 4
  · subst e
    rw [up_s, h4]
  · rw [up_n e]
/-- a thought with one who presses a floor for fun -/
def thJ (S : tT) (v : Nat → Int32) (n f nC r wi : Nat) (pr : Int32) (ps : Nat) : (Nat → Int32) × Nat := edW (secW none pr ps n f r (nlW v r) nC) n wi (wi + 1) 0 (up (vtW S 99 n v) 4 (nI r))
def thK (v : Nat → Int32) (n f nC r wi : Nat) (pr : Int32) (ps : Nat) : (Nat → Int32) × Nat := edW (secW none pr ps n f r (nlW v r) nC) n wi (wi + 1) 0 (up v 4 (nI r))
theorem thJ_K (hG : GI v n f nC) {r wi ps : Nat} {pr : Int32} (hr : r < 3) (hps : ps < 80) : Rl n nC (thJ S v n f nC r wi pr ps).1 (thK v n f nC r wi pr ps).1 ∧ (thJ S v n f nC r wi pr ps).2 = (thK v n f nC r wi pr ps).2 :=
  edW_Rl (hG.bd hr) hps _ _ _ _ (hG.ws4 hr) ((vt_Rl hG.1.2.2).up1 (fun p _ => by omega))
theorem thK_Rl (hG : GI w n f nC) (h : Rl n nC v w) {r wi ps : Nat} {pr : Int32} (hr : r < 3) (hps : ps < 80) : Rl n nC (thK v n f nC r wi pr ps).1 (thK w n f nC r wi pr ps).1 ∧ (thK v n f nC r wi pr ps).2 = (thK w n f nC r wi pr ps).2 := by
  unfold thK
  rw [nlW_Rl h]
  exact edW_Rl (hG.bd hr) hps _ _ _ _ (hG.ws4 hr) (h.up1 (fun p _ => by omega))
theorem thJ_run (h : TI g M S U π f nC n v) (hR : RT g M S τ v) {r wi ps : Nat} {pr : Int32} (hr : r < 3) (hwi : wi < 10000) (hS : ∀ a k, (a < 32 ∨ 166 ≤ a) → S1 a k = S a k) (h6 : S1 99 6 = pr) (h7 : S1 99 7 = nI ps) (hps : ps < f) (hJ : JK v pr ps n) : fc_CX g l yX3_toTheEnd cX3_toTheEnd 3 (some .int) 407 [.ref (fc_B g + 99), .int (nI wi)] (cR (fc_put M 99 5 .null) S1 (bcU U 99 32) 99 (up (vtW S 99 n v) 4 (nI r))) (cq_i (fc_put M 99 5 .null) S1 (bcU U 99 32) 99 f (teR (thJ S v n f nC r wi pr ps).1 n (thJ S v n f nC r wi pr ps).2) (thJ S v n f nC r wi pr ps).1) := by
  have hf := h.2.2.2.1.1.2.1
  have hK : KI g (fc_put M 99 5 .null) S1 (bcU U 99 32) π 99 f nC n r (nlW v r) ps (up (vtW S 99 n v) 4 (nI r)) := KI_bec h hr (fun a k e => hS a k (by omega)) (fun c hc => bU_1 hc) (Or.inr ⟨h7, hps⟩) (by omega) (by rw [h6]; exact hJ)
  have hT : TX g (fc_put M 99 5 .null) S1 (τ r) (up (vtW S 99 n v) 4 (nI r)) r (nlW v r) := TX_bec h.1.1 h.1.2 h.2.1.1 (fun a k _ e => hS a k e) (fun i hi => by rw [up_n (by omega), vt_n (Or.inr hi)]) (hR r hr).2
  have k := d_toEndR (l := l) (LT_put (v := .null) h.1.2) (h.2.2.2.1.bd hr) ((put_o (by decide)).trans (hR r hr).1) put_5 hwi hK hT
  rw [h6] at k
  exact k
theorem thJ_WS (hG : GI v n f nC) {r wi ps : Nat} {pr : Int32} (hr : r < 3) (hps : ps < 80) : WS (thJ S v n f nC r wi pr ps).1 n f r (nlW v r) nC := edW_WSg (hG.bd hr) hps _ _ _ (WS_cg (hG.bd hr) ((vt_Rl hG.1.2.2).up1 (fun p _ => by omega)) (hG.ws4 hr))
theorem thJ_fin {S2 : tT} {U2 : tU} {w2 : Nat → Int32} {r : Int32} (hS : ∀ a k, a ≠ 99 → S1 a k = clr S 32 v a k) (e4 : UF (bcU U 99 32) U2 99) (e5 : SF S1 S2 99) (hv : clr S 32 v = S) : th_i M S U r (.returned (some (.int r))) (cR (fc_put M 99 5 .null) S2 U2 99 w2) :=
  ⟨rfl, .null, _, U2, rfl, fun a k h1 h2 => (clr_o (by omega)).trans ((e5 a k h1 (by omega)).trans ((hS a k (by omega)).trans (by rw [hv]))), fun a k h => (e4 a k (by omega)).trans (if_neg (by omega))⟩
end T99ZJ

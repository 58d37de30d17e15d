set_option maxRecDepth 100000
section T99ZR
variable {g : fc_G} {l : Launch} {M : fc_M} {S S' : tT} {U U' : tU} {π f nC n : Nat} {v : Nat → Int32} {gv : Value} {τ : Nat → Nat}
/-- what a thought leaves, with the givings (233, 234) -/
abbrev thS3 (S S' : tT) : Prop := ∀ a k, a ≠ 31 → a ≠ 233 → a ≠ 234 → (a < 99 ∨ 166 ≤ a) → S' a k = S a k
theorem tel_th3 (hv : clr S 32 v = S) (hS : thS3 S S') : clr S' 32 v = S' := by
  funext a k
  by_cases h : 32 ≤ a ∧ a < 99
  · have e1 : clr S' 32 v a k = clr S 32 v a k := by
      show (if _ then _ else if _ then _ else if _ then _ else S' a k) = (if _ then _ else if _ then _ else if _ then _ else S a k)
      rw [hS a k (by omega) (by omega) (by omega) (by omega)]
    rw [e1, hv, hS a k (by omega) (by omega) (by omega) (by omega)]
  · exact clr_o (by omega)
theorem TI_S3 (h : TI g M S U π f nC n v) (hS : thS3 S S') (hU : thU U U') : TI g M S' U' π f nC n v := by
  obtain ⟨⟨h1, h2⟩, hO, hp, hG, hF, ho⟩ := h
  refine ⟨⟨h1, h2⟩, PC_off hO (fun a k a1 a2 => hS a k (by rcases hp with e | e <;> omega) (by rcases hp with e | e <;> omega) (by rcases hp with e | e <;> omega) (by rcases hp with e | e <;> omega)), hp, hG, FB_cg hF (fun c hc => ⟨hU _ _ (by omega), hU _ _ (by omega)⟩) (fun _ _ _ => rfl) hG.1.2.1, ho⟩
theorem RT_S3 (h : TI g M S U π f nC n v) (hS : thS3 S S') (q : RT g M S τ v) : RT g M S' τ v := fun r hr => ⟨(q r hr).1, TX_ext (fun a k z => by
  have h2 := off_tw h.1.2 (fun j _ => tw_not (s := fc_sh M a) (j := j) z)
  have n1 : ∀ b s, lfS b = some s → a = b → ¬ (s = .inl 8 ∨ s = .inl 9 ∨ s = .inl 10 ∨ s = .inl 1 ∨ s = .inr (.int, 16)) → False := fun b s hb e ne => by
    subst e
    rw [h.2.1.1.2.2 a s hb] at z
    exact ne z
  exact hS a k (fun e => n1 31 _ rfl e (by simp)) (fun e => n1 233 _ rfl e (by simp)) (fun e => n1 234 _ rfl e (by simp)) (by omega)) (q r hr).2⟩
theorem TI_M (h : TI g M S U π f nC n v) : TI g (fc_put M 99 5 gv) S U π f nC n v := TI_th h (fun _ _ _ _ => rfl) (fun _ _ _ => rfl)
theorem RT_M (h : TI g M S U π f nC n v) (q : RT g M S τ v) : RT g (fc_put M 99 5 gv) S τ v := RT_th h (fun _ _ _ _ => rfl) q
/-- a run as it is given -/
def gbX (S : tT) (v : Nat → Int32) (n f nC r : Nat) (A : Nat → Int32) : (Nat → Int32) × Nat := edW (secW (some A) (-1) 0 n f r (nlW v r) nC) n 3000 3001 0 (up (vtW S 99 n v) 4 (nI r))
def gbP (v : Nat → Int32) (n f nC r : Nat) (A : Nat → Int32) : (Nat → Int32) × Nat := edW (secW (some A) (-1) 0 n f r (nlW v r) nC) n 3000 3001 0 (up v 4 (nI r))
theorem gbX_P (hG : GI v n f nC) {r : Nat} {A : Nat → Int32} (hr : r < 3) : Rl n nC (gbX S v n f nC r A).1 (gbP v n f nC r A).1 ∧ (gbX S v n f nC r A).2 = (gbP v n f nC r A).2 :=
  edW_Rl (hG.bd hr) (by decide) _ _ _ _ (hG.ws4 hr) ((vt_Rl hG.1.2.2).up1 (fun p _ => by omega))
theorem gb_run (h : TI g M S U π f nC n v) (hR : RT g M S τ v) {r : Nat} (hr : r < 3) (h6 : n ≤ 6) : fc_CX g l yX3_toTheEnd cX3_toTheEnd 3 (some .int) 407 [.ref (fc_B g + 99), .int (nI 3000)] (cR (fc_put M 99 5 (.ref (fc_B g + 233))) (tu (clr S 32 v) 99 6 (-1)) (bcU U 99 32) 99 (up (vtW S 99 n v) 4 (nI r))) (cq_i (fc_put M 99 5 (.ref (fc_B g + 233))) (tu (clr S 32 v) 99 6 (-1)) (bcU U 99 32) 99 f (teR (gbX S v n f nC r (S 233)).1 n (gbX S v n f nC r (S 233)).2) (gbX S v n f nC r (S 233)).1) := by
  have hLT := LT_put (v := .ref (fc_B g + 233)) h.1.2
  have hLF : LF g (fc_put M 99 5 (.ref (fc_B g + 233))) := LF_put (by decide) h.2.1.1
  have k := d_toEnd (l := l) (tr := some (S 233)) (wi := 3000) (S := tu (clr S 32 v) 99 6 (-1)) (U := bcU U 99 32) (w := up (vtW S 99 n v) 4 (nI r)) hLT (h.2.2.2.1.bd hr) (fun S9 U9 w9 i hK9 hT9 hSF hi => by
      have e1 : S9 233 i = S 233 i := (hSF 233 i (by decide) (by omega)).trans (tS_lo (Or.inr (by decide)))
      have e2 := d_bestCarG (l := l) (S := S9) (U := U9) (w := w9) hLT hLF (by decide) (p := i) (by omega) put_5
      rw [e1] at e2
      exact e2) (by decide) (th_K (gv := .ref (fc_B g + 233)) h hr) (th_T (gv := .ref (fc_B g + 233)) h hR hr)
  rw [tS_6] at k
  exact k
theorem gbX_WS (hG : GI v n f nC) {r : Nat} {A : Nat → Int32} (hr : r < 3) : WS (gbX S v n f nC r A).1 n f r (nlW v r) nC := edW_WSg (hG.bd hr) (by decide) _ _ _ (WS_cg (hG.bd hr) ((vt_Rl hG.1.2.2).up1 (fun p _ => by omega)) (hG.ws4 hr))
/-- the search for the best giving -/
def fbL (v : Nat → Int32) (n f nC r all : Nat) : Nat → Nat → tS → tS
  | 0, _, s => s
  | k + 1, q, s => if q < all then (if (gvL v nC n q s.1 true).2 = true then (if cnt (stp (gbP v n f nC r (gvL v nC n q s.1 true).1).1 3) n = n then (if s.2.2 = -1 ∨ ovW (gbP v n f nC r (gvL v nC n q s.1 true).1).1 (-1) n (n + 1) 0 (nI 0) < s.2.2 then fbL v n f nC r all k (q + 1) ((gvL v nC n q s.1 true).1, fun j => if j < 6 then (gvL v nC n q s.1 true).1 j else s.2.1 j, ovW (gbP v n f nC r (gvL v nC n q s.1 true).1).1 (-1) n (n + 1) 0 (nI 0)) else fbL v n f nC r all k (q + 1) ((gvL v nC n q s.1 true).1, s.2)) else fbL v n f nC r all k (q + 1) ((gvL v nC n q s.1 true).1, s.2)) else fbL v n f nC r all k (q + 1) ((gvL v nC n q s.1 true).1, s.2)) else s
def fb_i (M : fc_M) (S : tT) (U : tU) (s : tS) : Outcome → fc_M → Prop := fun o M2 => o = .returned (some (.int s.2.2)) ∧ ∃ gv S' U', M2 = cl (fc_put M 99 5 gv) S' U' ∧ thS3 S S' ∧ thU U U' ∧ ∀ k, k < 6 → S' 234 k = s.2.1 k
theorem fb_tr {s : tS} {o : Outcome} {M2 : fc_M} (hS : thS3 S S') (hU : thU U U') (h : fb_i M S' U' s o M2) : fb_i M S U s o M2 := by
  obtain ⟨h1, gv2, S2, U2, h2, h3, h4, h5⟩ := h
  exact ⟨h1, gv2, S2, U2, h2, fun a k z1 z2 z3 z4 => (h3 a k z1 z2 z3 z4).trans (hS a k z1 z2 z3 z4), fun a k z => (h4 a k z).trans (hU a k z), h5⟩
theorem fb_tm {s : tS} {o : Outcome} {M2 : fc_M} (h : fb_i (fc_put M 99 5 gv) S U s o M2) : fb_i M S U s o M2 := by
  obtain ⟨h1, gv2, S2, U2, h2, h3⟩ := h
  exact ⟨h1, gv2, S2, U2, by rw [h2, put_put], h3⟩
theorem gb_fin {S2 : tT} {U2 : tU} {w2 : Nat → Int32} (e4 : UF (bcU U 99 32) U2 99) (e5 : SF (tu (clr S 32 v) 99 6 (-1)) S2 99) (hv : clr S 32 v = S) : thS S (clr S2 99 w2) ∧ thU U U2 :=
  ⟨fun a k h1 h2 => (clr_o (by omega)).trans ((e5 a k h1 (by omega)).trans ((if_neg (fun z => by omega)).trans (by rw [hv]))), fun a k h => (e4 a k (by omega)).trans (if_neg (by omega))⟩
theorem pow_le6 {i : Nat} (hC : nC ≤ 3) (hi : i ≤ 6) : nC ^ i ≤ 729 := Nat.le_trans (Nat.pow_le_pow_left hC i) (Nat.le_trans (Nat.pow_le_pow_right (by decide) hi) (by decide))
end T99ZR

set_option maxRecDepth 100000
section T99ZF
variable {g : fc_G} {l : Launch} {M : fc_M} {S S' : tT} {U U' : tU} {π f nC n : Nat} {v : Nat → Int32} {gv : Value} {τ : Nat → Nat}
theorem nI_nm2 {j : Nat} (h : j < 2 ^ 31) : ¬ nI j = -1 := by
  intro e
  have h1 := congrArg Int32.toInt e
  rw [nI_toInt h] at h1
  have h2 : (-1 : Int32).toInt = -1 := rfl
  omega
theorem put_o {a k : Nat} (h : a ≠ 99) : fc_ct (fc_put M 99 5 gv) a k = fc_ct M a k := if_neg (fun e => h e.1)
theorem LT_putO {β : Nat} (h : LT g M β) (hb : β + 67 ≤ 99 ∨ 99 < β) : LT g (fc_put M 99 5 gv) β := by
  obtain ⟨h1, h2, ⟨h3, h4, h5⟩, h6, h7⟩ := h
  exact ⟨h1, h2, ⟨(put_o (by omega)).trans h3, (put_o (by omega)).trans h4, (put_o (by omega)).trans h5⟩, fun p hp => (put_o (by omega)).trans (h6 p hp), fun c hc => (put_o (by omega)).trans (h7 c hc)⟩
theorem PC_putO {β : Nat} {w : Nat → Int32} (hp : plA π) (h : PC g M S π β f nC w) : PC g (fc_put M 99 5 gv) S π β f nC w := by
  obtain ⟨h1, h2, h3, a1, ⟨c1, c2, c3⟩, a3⟩ := h
  have hp' : π + 11 ≤ 99 ∨ 99 < π := by rcases hp with e | e <;> omega
  exact ⟨LF_put (by decide) h1, (put_o (by decide)).trans h2, h3, a1, ⟨fun j hj => (put_o (by omega)).trans (c1 j hj), (put_o (by omega)).trans c2, fun c hc => (put_o (by omega)).trans (c3 c hc)⟩, a3⟩
/-- what a thought leaves -/
abbrev thS (S S' : tT) : Prop := ∀ a k, a ≠ 31 → (a < 99 ∨ 166 ≤ a) → S' a k = S a k
abbrev thU (U U' : tU) : Prop := ∀ a k, (a < 99 ∨ 166 ≤ a) → U' a k = U a k
theorem tel_th (hv : clr S 32 v = S) (hS : thS S S') : clr S' 32 v = S' := by
  funext a k
  by_cases h : 32 ≤ a ∧ a < 99
  · have e1 : clr S' 32 v a k = clr S 32 v a k := by
      show (if _ then _ else if _ then _ else if _ then _ else S' a k) = (if _ then _ else if _ then _ else if _ then _ else S a k)
      rw [hS a k (by omega) (by omega)]
    rw [e1, hv, hS a k (by omega) (by omega)]
  · exact clr_o (by omega)
theorem TI_th (h : TI g M S U π f nC n v) (hS : thS S S') (hU : thU U U') : TI g (fc_put M 99 5 gv) S' U' π f nC n v := by
  obtain ⟨⟨h1, h2⟩, hO, hp, hG, hF, ho⟩ := h
  refine ⟨⟨LT_putO h1 (by omega), LT_put h2⟩, PC_off (PC_putO hp hO) (fun a k a1 a2 => hS a k (by rcases hp with e | e <;> omega) (by rcases hp with e | e <;> omega)), hp, hG, FB_cg hF (fun c hc => ⟨hU _ _ (by omega), hU _ _ (by omega)⟩) (fun _ _ _ => rfl) hG.1.2.1, ho⟩
theorem TX_th {r nl t : Nat} (hL : LT g M 99) (hF : LF g M) (hS : thS S S') (q : TX g M S t v r nl) : TX g (fc_put M 99 5 gv) S' t v r nl := by
  refine TX_put hL.sh0 (TX_ext (fun a k h => ?_) q)
  have h2 := off_tw hL (fun j _ => tw_not (s := fc_sh M a) (j := j) h)
  refine hS a k (fun e => ?_) (by omega)
  subst e
  have h4 : fc_sh M 31 = .inr (.int, 10) := hF.2.2 31 _ rfl
  rw [h4] at h
  simp at h
theorem RT_th (h : TI g M S U π f nC n v) (hS : thS S S') (q : RT g M S τ v) : RT g (fc_put M 99 5 gv) S' τ v := fun r hr => ⟨(put_o (by decide)).trans (q r hr).1, TX_th h.1.2 h.2.1.1 hS (q r hr).2⟩
/-- the run of a thought -/
def thX (S : tT) (v : Nat → Int32) (n f nC r wi : Nat) : (Nat → Int32) × Nat := edW (secW none (-1) 0 n f r (nlW v r) nC) n wi (wi + 1) 0 (up (vtW S 99 n v) 4 (nI r))
theorem bU_1 {c : Nat} (hc : c < 4) : bcU U 99 32 (99 + 63 + c) 6 = U (32 + 63 + c) 6 ∧ bcU U 99 32 (99 + 63 + c) 7 = U (32 + 63 + c) 7 := by
  have e : 32 + (99 + 63 + c - 99) = 32 + 63 + c := by omega
  constructor
  · show (if _ then U (32 + (99 + 63 + c - 99)) 6 else _) = _
    rw [if_pos (by omega), e]
  · show (if _ then U (32 + (99 + 63 + c - 99)) 7 else _) = _
    rw [if_pos (by omega), e]
theorem tS_6 {x : Int32} : tu (clr S 32 v) 99 6 x 99 6 = x := if_pos ⟨rfl, rfl⟩
theorem tS_lo {x : Int32} {a k : Nat} (h : a < 32 ∨ 166 ≤ a) : tu (clr S 32 v) 99 6 x a k = S a k := (if_neg (fun z => by omega)).trans (clr_o (by omega))
theorem th_K (h : TI g M S U π f nC n v) {r : Nat} (hr : r < 3) : KI g (fc_put M 99 5 gv) (tu (clr S 32 v) 99 6 (-1)) (bcU U 99 32) π 99 f nC n r (nlW v r) 0 (up (vtW S 99 n v) 4 (nI r)) :=
  KI_bec h hr (fun a k e => tS_lo (by omega)) (fun c hc => bU_1 hc) (Or.inl tS_6) (by decide) (by rw [tS_6]; exact JK_no h.2.2.2.1.1.1)
theorem th_T (h : TI g M S U π f nC n v) (hR : RT g M S τ v) {r : Nat} (hr : r < 3) : TX g (fc_put M 99 5 gv) (tu (clr S 32 v) 99 6 (-1)) (τ r) (up (vtW S 99 n v) 4 (nI r)) r (nlW v r) :=
  TX_bec h.1.1 h.1.2 h.2.1.1 (fun a k _ e => tS_lo e) (fun i hi => by rw [up_n (by omega), vt_n (Or.inr hi)]) (hR r hr).2
theorem th_run (h : TI g M S U π f nC n v) (hR : RT g M S τ v) {r wi : Nat} (hr : r < 3) (hwi : wi < 10000) : fc_CX g l yX3_toTheEnd cX3_toTheEnd 3 (some .int) 407 [.ref (fc_B g + 99), .int (nI wi)] (cR (fc_put M 99 5 .null) (tu (clr S 32 v) 99 6 (-1)) (bcU U 99 32) 99 (up (vtW S 99 n v) 4 (nI r))) (cq_i (fc_put M 99 5 .null) (tu (clr S 32 v) 99 6 (-1)) (bcU U 99 32) 99 f (teR (thX S v n f nC r wi).1 n (thX S v n f nC r wi).2) (thX S v n f nC r wi).1) := by
  have k := d_toEndR (l := l) (LT_put (v := .null) h.1.2) (h.2.2.2.1.bd hr) ((put_o (by decide)).trans (hR r hr).1) put_5 hwi (th_K (gv := .null) h hr) (th_T (gv := .null) h hR hr)
  rw [tS_6] at k
  exact k
theorem edW_WSg {tr : Option (Nat → Int32)} {pr : Int32} {ps rr nl wi : Nat} (hb : Bd n f rr nC) (hps : ps < 80) : ∀ (q j : Nat) (w : Nat → Int32), WS w n f rr nl nC → WS (edW (secW tr pr ps n f rr nl nC) n wi q j w).1 n f rr nl nC
  | 0, _, _, h => h
  | q + 1, j, w, h => by
    simp only [edW]
    split
    · split
      · exact edW_WSg hb hps q (j + 1) _ (secW_WS hb hps h)
      · exact h
    · exact h
theorem th_WS (h : TI g M S U π f nC n v) {r wi : Nat} (hr : r < 3) : WS (thX S v n f nC r wi).1 n f r (nlW v r) nC := edW_WSg (h.2.2.2.1.bd hr) (by decide) _ _ _ (th_K (gv := .null) h hr).2.1
theorem th_fin {S2 : tT} {U2 : tU} {w2 : Nat → Int32} {r : Int32} (e4 : UF (bcU U 99 32) U2 99) (e5 : SF (tu (clr S 32 v) 99 6 (-1)) S2 99) (hv : clr S 32 v = S) : th_i M S U r (.returned (some (.int r))) (cR (fc_put M 99 5 .null) S2 U2 99 w2) :=
  ⟨rfl, .null, _, U2, rfl, fun a k h1 h2 => (clr_o (by omega)).trans ((e5 a k h1 (by omega)).trans ((if_neg (fun z => by omega)).trans (by rw [hv]))), fun a k h => (e4 a k (by omega)).trans (if_neg (by omega))⟩
/-- a long answer -/
def fc_rl (P : Int64 → fc_M → Prop) : Outcome → fc_M → Prop := fun o M => ∃ r : Int64, o = .returned (some (.long r)) ∧ P r M
theorem x_V1l {y : MethodName} {cc : ByteArray} {nL : Nat} {ret : Option FieldType} {d n0 s0 : Nat} {M : fc_M} {pc : Nat} {L : List (Option Value)} {Q : Outcome → fc_M → Prop} {y2 : MethodName} {c2 : ByteArray} {n2 d2 b i N : Nat} {r2 : Option FieldType} {rest : List Value} {T : u_T} {a1 : Value} {P : Int64 → fc_M → Prop} (ci : Nat) (hd : decode cc pc = .ok (.invokevirtual i, 3)) (hG : GoodIn lw_all (wsV y.cls i y2.cls y2 (ws_ y2 c2 n2 r2))) (hpar : y2.cls = y2.cls ∧ y2.cls ≠ "java/lang/invoke/MethodHandle" ∧ y2.cls ≠ "java/lang/invoke/VarHandle" ∧ (parseMethodDescriptor y2.desc).map (fun d => d.parameters.length) = some 1) (hcl : fcCl[ci]? = some (y2.cls, T, N)) (hb : b < fc_nx M) (hs : fc_sh M b = .inl ci) (hdd : d2 + 1 ≤ d) (hn2 : n2 ≤ 45) (hrest : (rest.map fun v => v.category).sum ≤ 8) (hC : fc_CX g l y2 c2 n2 r2 d2 (.ref (fc_B g + b) :: [a1]) M (fc_rl P))
    (kk : ∀ (r : Int64) (M2 : fc_M), P r M2 → fc_X g l y cc nL ret d n0 s0 M2 (pc + 3) L (.long r :: rest) Q) : fc_X g l y cc nL ret d n0 s0 M pc L (a1 :: .ref (fc_B g + b) :: rest) Q := by
  obtain ⟨o2, M2, ⟨r, ho, hP⟩, hC2⟩ := hC
  exact fc_callV (As := [a1]) ci hd hG hpar hcl hb hs hdd hn2 hrest rfl hC2 ho (kk r M2 hP)
end T99ZF

set_option maxRecDepth 100000
/-! ===== a Text while it is read ===== -/
section T99ZZN
variable {g : fc_G} {l : Launch} {M M1 M2 M0 : fc_M} {S S1 S2 S0 : tT} {U : tU}
def seg (ps : tLs) (a b : Nat) : tLs := (ps.drop a).take (b - a)
theorem seg_app {ps z : tLs} {a b : Nat} (hb : b ≤ ps.length) : seg (ps ++ z) a b = seg ps a b := by
  unfold seg
  rw [List.drop_append, List.take_append]
  by_cases h : a ≤ ps.length
  · rw [List.length_drop, show a - ps.length = 0 by omega, show b - a - (ps.length - a) = 0 by omega]
    simp
  · rw [show b - a = 0 by omega]
    simp
theorem seg_new {ps p z : tLs} {a b : Nat} (ha : a = ps.length) (hb : b = a + p.length) : seg (ps ++ (p ++ z)) a b = p := by
  subst ha
  subst hb
  unfold seg
  rw [List.drop_left, show ps.length + p.length - ps.length = p.length by omega, List.take_left]
def LnF (g : fc_G) (M : fc_M) (S : tT) (τ : Nat) (ps : tLs) (i : Nat) (l : tLn) : Prop := S (τ + 1) i = l.1 ∧ (l.1 = nI 0 ∨ l.1 = nI 1) ∧ (l.2.1 ≤ l.2.2.1 ∧ l.2.2.1 ≤ l.2.2.2 ∧ l.2.2.2 ≤ ps.length)
  ∧ ((l.2.2.2 = l.2.2.1 ∧ fc_ct M (τ + 3) i = .null) ∨ (¬ l.2.2.2 = l.2.2.1 ∧ ∃ x, fc_ct M (τ + 3) i = .ref (fc_B g + x) ∧ tmI g M S 402 x (seg ps l.2.2.1 l.2.2.2) ∧ okB (seg ps l.2.2.1 l.2.2.2)))
  ∧ (¬ l.1 = nI 1 → ∃ x, fc_ct M (τ + 2) i = .ref (fc_B g + x) ∧ tmI g M S 402 x (seg ps l.2.1 l.2.2.1) ∧ okT (seg ps l.2.1 l.2.2.1))
def RR (g : fc_G) (M : fc_M) (S : tT) (τ : Nat) (ls : List tLn) (ps : tLs) (m : Nat) : Prop :=
  (τ + 4 ≤ fc_nx M ∧ fc_sh M τ = .inl 1 ∧ fc_sh M (τ + 1) = .inr (.int, 16) ∧ fc_sh M (τ + 2) = .inr (.object "FourCars$Term", 16) ∧ fc_sh M (τ + 3) = .inr (.object "FourCars$Term", 16))
  ∧ (fc_ct M τ 0 = .ref (fc_B g + (τ + 1)) ∧ fc_ct M τ 1 = .ref (fc_B g + (τ + 2)) ∧ fc_ct M τ 2 = .ref (fc_B g + (τ + 3)))
  ∧ (S τ 3 = nI ls.length ∧ ls.length ≤ 16 ∧ 1 ≤ τ)
  ∧ (∀ i l, ls[i]? = some l → LnF g M S τ ps i l)
  ∧ ∀ i, m ≤ i → i < 16 → fc_ct M (τ + 3) i = .null
/-- terms see terms alone -/
theorem tmI_cg (hn : fc_nx M ≤ fc_nx M1) (h : ∀ r c, r < fc_nx M → 8 ≤ c → fc_sh M r = .inl c → fc_sh M1 r = fc_sh M r ∧ (∀ k, fc_ct M1 r k = fc_ct M r k) ∧ ∀ k, S1 r k = S r k) : ∀ (k r : Nat) (ps : tLs), tmI g M S k r ps → tmI g M1 S1 k r ps := by
  intro k
  induction k with
  | zero => intro r ps q; exact q
  | succ k ih =>
    intro r ps q
    obtain ⟨hr, q⟩ := q
    refine ⟨Nat.lt_of_lt_of_le hr hn, ?_⟩
    rcases q with ⟨hs, h2⟩ | ⟨hs, j, v, hj, hv, h2⟩ | ⟨hs, a, pa, ha, hA, rfl⟩ | ⟨hs, a, pa, c, pb, s, ha, hb, hsg, hA, hB, hps⟩
    · obtain ⟨e1, e2, e3⟩ := h r 8 hr (by decide) hs
      exact Or.inl ⟨e1.trans hs, by rw [e3]; exact h2⟩
    · obtain ⟨e1, e2, e3⟩ := h r 9 hr (by decide) hs
      exact Or.inr (Or.inl ⟨e1.trans hs, j, v, hj, by rw [e3]; exact hv, h2⟩)
    · obtain ⟨e1, e2, e3⟩ := h r 11 hr (by decide) hs
      exact Or.inr (Or.inr (Or.inl ⟨e1.trans hs, a, pa, (e2 0).trans ha, ih a pa hA, rfl⟩))
    · obtain ⟨e1, e2, e3⟩ := h r 10 hr (by decide) hs
      exact Or.inr (Or.inr (Or.inr ⟨e1.trans hs, a, pa, c, pb, s, (e2 1).trans ha, (e2 2).trans hb, by rw [e3]; exact hsg, ih a pa hA, ih c pb hB, hps⟩))
theorem tmI_pt2 {a j : Nat} {v : Value} (ha : ∀ c, 8 ≤ c → fc_sh M a ≠ .inl c) : ∀ (k r : Nat) (ps : tLs), tmI g M S k r ps → tmI g (fc_put M a j v) S k r ps :=
  tmI_cg (Nat.le_refl _) (fun r c hr h8 hs => ⟨rfl, fun k => ct_pn (fun z => ha c h8 (by rw [← z.1]; exact hs)), fun _ => rfl⟩)
theorem tmI_tu {a j : Nat} {v : Int32} (ha : ∀ c, 8 ≤ c → fc_sh M a ≠ .inl c) : ∀ (k r : Nat) (ps : tLs), tmI g M S k r ps → tmI g M (tu S a j v) k r ps :=
  tmI_cg (Nat.le_refl _) (fun r c hr h8 hs => ⟨rfl, fun _ => rfl, fun k => if_neg (fun z => ha c h8 (by rw [← z.1]; exact hs))⟩)
theorem nsh {a : Nat} {t : FieldType × Nat} (h : fc_sh M a = .inr t) : ∀ c, 8 ≤ c → fc_sh M a ≠ .inl c := fun c _ z => by rw [h] at z; cases z
theorem nsh1 {a : Nat} (h : fc_sh M a = .inl 1) : ∀ c, 8 ≤ c → fc_sh M a ≠ .inl c := fun c h8 z => by
  rw [h] at z
  have e : (1 : Nat) = c := by injection z
  omega
theorem RR_gw {τ m : Nat} {ls : List tLn} {ps : tLs} (h0 : fc_sh M 0 = .inl 0) (h : RR g M S τ ls ps m) (e : gw M S M1 S1) : RR g M1 S1 τ ls ps m := by
  obtain ⟨⟨t1, t2, t3, t4, t5⟩, ⟨r1, r2, r3⟩, ⟨m1, m2, m3⟩, hl, hnl⟩ := h
  have es : ∀ a, τ ≤ a → a < τ + 4 → fc_sh M1 a = fc_sh M a := fun a _ _ => (e.2.2.1 a (by omega)).1
  have ec : ∀ a k, τ ≤ a → a < τ + 4 → fc_ct M1 a k = fc_ct M a k := fun a k _ _ => (e.2.2.1 a (by omega)).2 k (by omega)
  have eS : ∀ a k, τ ≤ a → a < τ + 4 → S1 a k = S a k := fun a k _ _ => e.2.2.2 a k (by omega) (by omega)
  refine ⟨⟨Nat.le_trans t1 e.1, (es _ (by omega) (by omega)).trans t2, (es _ (by omega) (by omega)).trans t3, (es _ (by omega) (by omega)).trans t4, (es _ (by omega) (by omega)).trans t5⟩, ⟨(ec _ _ (by omega) (by omega)).trans r1, (ec _ _ (by omega) (by omega)).trans r2, (ec _ _ (by omega) (by omega)).trans r3⟩, ⟨(eS _ _ (by omega) (by omega)).trans m1, m2, m3⟩, fun i l hi => ?_, fun i h1 h2 => (ec _ _ (by omega) (by omega)).trans (hnl i h1 h2)⟩
  obtain ⟨a1, a2, a3, a4, a5⟩ := hl i l hi
  refine ⟨(eS _ _ (by omega) (by omega)).trans a1, a2, a3, ?_, fun z => ?_⟩
  · rcases a4 with ⟨b1, b2⟩ | ⟨b1, x, b2, b3, b4⟩
    · exact Or.inl ⟨b1, (ec _ _ (by omega) (by omega)).trans b2⟩
    · exact Or.inr ⟨b1, x, (ec _ _ (by omega) (by omega)).trans b2, tmI_gw h0 e _ _ _ b3, b4⟩
  · obtain ⟨x, b1, b2, b3⟩ := a5 z
    exact ⟨x, (ec _ _ (by omega) (by omega)).trans b1, tmI_gw h0 e _ _ _ b2, b3⟩
theorem get_lt {α : Type} {ls : List α} {i : Nat} {x : α} (h : ls[i]? = some x) : i < ls.length := (List.getElem?_eq_some_iff.mp h).1
theorem RR_w {τ m : Nat} {ls : List tLn} {ps : tLs} {v : Int32} (h : RR g M S τ ls ps m) : RR g M (tu S (τ + 1) ls.length v) τ ls ps m := by
  obtain ⟨⟨t1, t2, t3, t4, t5⟩, r, ⟨m1, m2, m3⟩, hl, hnl⟩ := h
  refine ⟨⟨t1, t2, t3, t4, t5⟩, r, ⟨(if_neg (fun z => by omega)).trans m1, m2, m3⟩, fun i l hi => ?_, hnl⟩
  obtain ⟨a1, a2, a3, a4, a5⟩ := hl i l hi
  have hlt := get_lt hi
  refine ⟨(if_neg (fun z => by omega)).trans a1, a2, a3, ?_, fun z => ?_⟩
  · rcases a4 with ⟨b1, b2⟩ | ⟨b1, x, b2, b3, b4⟩
    · exact Or.inl ⟨b1, b2⟩
    · exact Or.inr ⟨b1, x, b2, tmI_tu (nsh t3) _ _ _ b3, b4⟩
  · obtain ⟨x, b1, b2, b3⟩ := a5 z
    exact ⟨x, b1, tmI_tu (nsh t3) _ _ _ b2, b3⟩
theorem RR_p2 {τ m : Nat} {ls : List tLn} {ps : tLs} {v : Value} (h : RR g M S τ ls ps m) : RR g (fc_put M (τ + 2) ls.length v) S τ ls ps m := by
  obtain ⟨⟨t1, t2, t3, t4, t5⟩, ⟨r1, r2, r3⟩, mm, hl, hnl⟩ := h
  refine ⟨⟨t1, t2, t3, t4, t5⟩, ⟨(ct_pn (fun z => by omega)).trans r1, (ct_pn (fun z => by omega)).trans r2, (ct_pn (fun z => by omega)).trans r3⟩, mm, fun i l hi => ?_, fun i h1 h2 => (ct_pn (fun z => by omega)).trans (hnl i h1 h2)⟩
  obtain ⟨a1, a2, a3, a4, a5⟩ := hl i l hi
  have hlt := get_lt hi
  refine ⟨a1, a2, a3, ?_, fun z => ?_⟩
  · rcases a4 with ⟨b1, b2⟩ | ⟨b1, x, b2, b3, b4⟩
    · exact Or.inl ⟨b1, (ct_pn (fun z => by omega)).trans b2⟩
    · exact Or.inr ⟨b1, x, (ct_pn (fun z => by omega)).trans b2, tmI_pt2 (nsh t4) _ _ _ b3, b4⟩
  · obtain ⟨x, b1, b2, b3⟩ := a5 z
    exact ⟨x, (ct_pn (fun z => by omega)).trans b1, tmI_pt2 (nsh t4) _ _ _ b2, b3⟩
theorem RR_p3 {τ : Nat} {ls : List tLn} {ps : tLs} {v : Value} (h : RR g M S τ ls ps (ls.length + 1)) : RR g (fc_put M (τ + 3) ls.length v) S τ ls ps (ls.length + 1) := by
  obtain ⟨⟨t1, t2, t3, t4, t5⟩, ⟨r1, r2, r3⟩, mm, hl, hnl⟩ := h
  refine ⟨⟨t1, t2, t3, t4, t5⟩, ⟨(ct_pn (fun z => by omega)).trans r1, (ct_pn (fun z => by omega)).trans r2, (ct_pn (fun z => by omega)).trans r3⟩, mm, fun i l hi => ?_, fun i h1 h2 => (ct_pn (fun z => by omega)).trans (hnl i h1 h2)⟩
  obtain ⟨a1, a2, a3, a4, a5⟩ := hl i l hi
  have hlt := get_lt hi
  refine ⟨a1, a2, a3, ?_, fun z => ?_⟩
  · rcases a4 with ⟨b1, b2⟩ | ⟨b1, x, b2, b3, b4⟩
    · exact Or.inl ⟨b1, (ct_pn (fun z => by omega)).trans b2⟩
    · exact Or.inr ⟨b1, x, (ct_pn (fun z => by omega)).trans b2, tmI_pt2 (nsh t5) _ _ _ b3, b4⟩
  · obtain ⟨x, b1, b2, b3⟩ := a5 z
    exact ⟨x, (ct_pn (fun z => by omega)).trans b1, tmI_pt2 (nsh t5) _ _ _ b2, b3⟩
theorem RR_end {τ : Nat} {ls : List tLn} {ps z : tLs} {ln : tLn} (h : RR g M S τ ls ps (ls.length + 1)) (h16 : ls.length < 16) (hn : LnF g M S τ (ps ++ z) ls.length ln) : RR g M (tu S τ 3 (nI (ls.length + 1))) τ (ls ++ [ln]) (ps ++ z) (ls.length + 1) := by
  obtain ⟨⟨t1, t2, t3, t4, t5⟩, r, ⟨m1, m2, m3⟩, hl, hnl⟩ := h
  have key : ∀ i l, LnF g M S τ (ps ++ z) i l → LnF g M (tu S τ 3 (nI (ls.length + 1))) τ (ps ++ z) i l := fun i l hL => by
    obtain ⟨a1, a2, a3, a4, a5⟩ := hL
    refine ⟨(if_neg (fun z => by omega)).trans a1, a2, a3, ?_, fun z => ?_⟩
    · rcases a4 with ⟨b1, b2⟩ | ⟨b1, x, b2, b3, b4⟩
      · exact Or.inl ⟨b1, b2⟩
      · exact Or.inr ⟨b1, x, b2, tmI_tu (nsh1 t2) _ _ _ b3, b4⟩
    · obtain ⟨x, b1, b2, b3⟩ := a5 z
      exact ⟨x, b1, tmI_tu (nsh1 t2) _ _ _ b2, b3⟩
  refine ⟨⟨t1, t2, t3, t4, t5⟩, r, ⟨by rw [List.length_append]; exact tu_at, by rw [List.length_append]; show ls.length + 1 ≤ 16; omega, m3⟩, fun i l hi => ?_, hnl⟩
  rcases getq_last hi with ⟨hi1, hi2⟩ | ⟨hi1, hi2⟩
  · refine key i l ?_
    obtain ⟨a1, a2, ⟨c1, c2, c3⟩, a4, a5⟩ := hl i l hi2
    refine ⟨a1, a2, ⟨c1, c2, by rw [List.length_append]; omega⟩, ?_, fun y => ?_⟩
    · rw [seg_app c3]; exact a4
    · rw [seg_app (by omega)]; exact a5 y
  · subst hi1; subst hi2
    exact key _ _ hn
/-- a new Text -/
def tiA (g : fc_G) (M : fc_M) (τ k : Nat) (sh : fc_Sh) (N : Nat) (fv : Nat → Value) : fc_M := fc_put (fc_new M sh N fv) τ k (.ref (fc_B g + fc_nx M))
def tiM (g : fc_G) (M : fc_M) (τ : Nat) : fc_M := tiA g (tiA g (tiA g M τ 0 (.inr (.int, 16)) 16 (fun _ => .int 0)) τ 1 (.inr (.object "FourCars$Term", 16)) 16 (fun _ => .null)) τ 2 (.inr (.object "FourCars$Term", 16)) 16 (fun _ => .null)
def tiS (S : tT) (n : Nat) : tT := tz0 (tz0 (tz0 S n) (n + 1)) (n + 2)
def tx0 (g : fc_G) (M : fc_M) : fc_M := tiM g (fc_new M (.inl 1) 4 (fun k => defaultValue (fcTy 1 k))) (fc_nx M)
def tx1 (M : fc_M) (S : tT) : tT := tiS (tz0 S (fc_nx M)) (fc_nx M + 1)
theorem tx_nx : fc_nx (tx0 g M) = fc_nx M + 4 ∧ fc_sl (tx0 g M) = fc_sl M + 52 := ⟨rfl, rfl⟩
theorem tx_gw : gw M S (tx0 g M) (tx1 M S) := by
  refine ⟨by rw [tx_nx.1]; omega, by rw [tx_nx.2]; omega, fun a ha => ⟨?_, fun k _ => ?_⟩, fun a k ha _ => ?_⟩
  · show (if a = fc_nx M + 3 then _ else if a = fc_nx M + 2 then _ else if a = fc_nx M + 1 then _ else if a = fc_nx M then _ else fc_sh M a) = fc_sh M a
    rw [if_neg (by omega), if_neg (by omega), if_neg (by omega), if_neg (by omega)]
  · show (if a = fc_nx M ∧ k = 2 then _ else if a = fc_nx M + 3 then _ else if a = fc_nx M ∧ k = 1 then _ else if a = fc_nx M + 2 then _ else if a = fc_nx M ∧ k = 0 then _ else if a = fc_nx M + 1 then _ else if a = fc_nx M then _ else fc_ct M a k) = fc_ct M a k
    rw [if_neg (by omega), if_neg (by omega), if_neg (by omega), if_neg (by omega), if_neg (by omega), if_neg (by omega), if_neg (by omega)]
  · show (if a = fc_nx M + 1 + 2 then _ else if a = fc_nx M + 1 + 1 then _ else if a = fc_nx M + 1 then _ else if a = fc_nx M then _ else S a k) = S a k
    rw [if_neg (by omega), if_neg (by omega), if_neg (by omega), if_neg (by omega)]
theorem tx_RR (h1 : 1 ≤ fc_nx M) : RR g (tx0 g M) (tx1 M S) (fc_nx M) [] [] 0 := by
  have e : ∀ a, fc_sh (tx0 g M) a = (if a = fc_nx M + 3 then .inr (.object "FourCars$Term", 16) else if a = fc_nx M + 2 then .inr (.object "FourCars$Term", 16) else if a = fc_nx M + 1 then .inr (.int, 16) else if a = fc_nx M then .inl 1 else fc_sh M a) := fun _ => rfl
  have c : ∀ a k, fc_ct (tx0 g M) a k = (if a = fc_nx M ∧ k = 2 then .ref (fc_B g + (fc_nx M + 3)) else if a = fc_nx M + 3 then .null else if a = fc_nx M ∧ k = 1 then .ref (fc_B g + (fc_nx M + 2)) else if a = fc_nx M + 2 then .null else if a = fc_nx M ∧ k = 0 then .ref (fc_B g + (fc_nx M + 1)) else if a = fc_nx M + 1 then .int 0 else if a = fc_nx M then defaultValue (fcTy 1 k) else fc_ct M a k) := fun _ _ => rfl
  refine ⟨⟨by rw [tx_nx.1]; exact Nat.le_refl _, ?_, ?_, ?_, ?_⟩, ⟨?_, ?_, ?_⟩, ⟨?_, Nat.zero_le _, h1⟩, fun i l hi => (by cases hi), fun i _ _ => ?_⟩
  · rw [e, if_neg (by omega), if_neg (by omega), if_neg (by omega), if_pos rfl]
  · rw [e, if_neg (by omega), if_neg (by omega), if_pos rfl]
  · rw [e, if_neg (by omega), if_pos rfl]
  · rw [e, if_pos rfl]
  · rw [c, if_neg (by omega), if_neg (by omega), if_neg (by omega), if_neg (by omega), if_pos ⟨rfl, rfl⟩]
  · rw [c, if_neg (by omega), if_neg (by omega), if_pos ⟨rfl, rfl⟩]
  · rw [c, if_pos ⟨rfl, rfl⟩]
  · show (if fc_nx M = fc_nx M + 1 + 2 then _ else if fc_nx M = fc_nx M + 1 + 1 then _ else if fc_nx M = fc_nx M + 1 then _ else if fc_nx M = fc_nx M then (0 : Int32) else _) = _
    rw [if_neg (by omega), if_neg (by omega), if_neg (by omega), if_pos rfl]
    rfl
  · rw [c, if_neg (by omega), if_pos rfl]
/-- how much a text takes -/
def js (M0 : fc_M) (S0 : tT) (M : fc_M) (S : tT) (p : Nat) : Prop := gw M0 S0 M S ∧ fc_nx M ≤ fc_nx M0 + 11 + p ∧ fc_sl M ≤ fc_sl M0 + 360 + 3 * p
theorem js.tr {p p2 j : Nat} (h : js M0 S0 M S p) (h2 : jw M S p j M1 S1 p2) : js M0 S0 M1 S1 p2 := by
  obtain ⟨a1, a2, a3⟩ := h
  obtain ⟨b1, b2, b3, b4⟩ := h2
  exact ⟨a1.tr b1, by omega, by omega⟩
theorem js.tre {p p2 : Nat} (h : js M0 S0 M S p) (h2 : je M S p M1 S1 p2) : gw M0 S0 M1 S1 ∧ fc_nx M1 ≤ fc_nx M0 + 412 ∧ fc_sl M1 ≤ fc_sl M0 + 1568 := by
  obtain ⟨a1, a2, a3⟩ := h
  obtain ⟨b1, b2, b3, b4⟩ := h2
  exact ⟨a1.tr b1, by omega, by omega⟩
theorem js.put {p x k : Nat} {v : Value} (h : js M0 S0 M S p) (hx : fc_nx M0 ≤ x) : js M0 S0 (fc_put M x k v) S p := ⟨h.1.put hx, h.2⟩
theorem js.tux {p x k : Nat} {v : Int32} (h : js M0 S0 M S p) (hx : fc_nx M0 ≤ x) : js M0 S0 M (tu S x k v) p := ⟨h.1.tux hx, h.2⟩
theorem ctk_put {E : tEn} {q : tTk} {x k : Nat} {v : Value} (h : ctk g M S E q) (hx : x ≠ 0) : ctk g (fc_put M x k v) S E q := ctk_sm h (ct_pn (fun z => hx z.1.symm)) (fun _ _ _ _ => rfl)
theorem ctk_tu {E : tEn} {q : tTk} {x k : Nat} {v : Int32} (h : ctk g M S E q) (hx : 1 < x) : ctk g M (tu S x k v) E q := ctk_sm h rfl (fun a j ha _ => if_neg (fun z => by omega))
theorem LF_pt {x k : Nat} {v : Value} (h : LF g M) (hx : x ≠ 0) : LF g (fc_put M x k v) := LF_of h rfl (fun _ => rfl) (fun k b _ => ct_pn (fun z => hx z.1.symm))
theorem WD_pt {x k : Nat} {v : Value} (h : WD g M) (hx : 5 < x) : WD g (fc_put M x k v) := ⟨fun j hj => (ct_pn (fun z => by omega)).trans (h.1 j hj), fun j hj => (ct_pn (fun z => by omega)).trans (h.2.1 j hj), fun j hj => (ct_pn (fun z => by omega)).trans (h.2.2.1 j hj), fun j hj => (ct_pn (fun z => by omega)).trans (h.2.2.2 j hj)⟩
end T99ZZN

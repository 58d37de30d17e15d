set_option maxRecDepth 100000
def lfR (k : Nat) : Option Nat := match k with
  | 0 => some 1
  | 2 => some 2
  | 3 => some 3
  | 4 => some 4
  | 5 => some 5
  | 13 => some 6
  | 15 => some 30
  | 16 => some 31
  | 17 => some 32
  | 18 => some 99
  | 19 => some 166
  | 20 => some 233
  | 21 => some 234
  | 22 => some 235
  | 23 => some 240
  | 24 => some 241
  | 25 => some 242
  | 28 => some 243
  | 29 => some 244
  | _ => none
def lfS (a : Nat) : Option fc_Sh := match a with
  | 0 => some (.inl 0)
  | 1 => some (.inr (.byte, 400))
  | 2 => some (.inr (.object "java/lang/String", 2))
  | 3 => some (.inr (.object "java/lang/String", 3))
  | 4 => some (.inr (.object "java/lang/String", 10))
  | 5 => some (.inr (.object "java/lang/String", 4))
  | 6 => some (.inr (.object "FourCars$Text", 3))
  | 30 => some (.inr (.int, 80))
  | 31 => some (.inr (.int, 10))
  | 233 => some (.inr (.int, 6))
  | 234 => some (.inr (.int, 6))
  | 235 => some (.inr (.array .int, 4))
  | 236 => some (.inr (.int, 80))
  | 237 => some (.inr (.int, 80))
  | 238 => some (.inr (.int, 80))
  | 239 => some (.inr (.int, 80))
  | 240 => some (.inr (.int, 4))
  | 241 => some (.inr (.int, 4))
  | 242 => some (.inr (.int, 3))
  | 243 => some (.inr (.object "FourCars$Text", 3))
  | 244 => some (.inr (.int, 80))
  | _ => none
def LF (g : fc_G) (M : fc_M) : Prop := 245 ≤ fc_nx M ∧ (∀ k b, lfR k = some b → fc_ct M 0 k = .ref (fc_B g + b)) ∧ ∀ a s, lfS a = some s → fc_sh M a = s
/-- a plan at π, as the row w tells it -/
def PO (g : fc_G) (M : fc_M) (S : tT) (π f nC : Nat) (w : Nat → Int32) : Prop :=
  (π + 11 ≤ fc_nx M ∧ fc_sh M π = .inl 2 ∧ (∀ j, j < 5 → fc_sh M (π + 1 + j) = .inr (.int, 4)) ∧ fc_sh M (π + 6) = .inr (.array .boolean, 4) ∧ ∀ c, c < 4 → fc_sh M (π + 7 + c) = .inr (.boolean, 80))
  ∧ ((∀ j, j < 5 → fc_ct M π (3 + j) = .ref (fc_B g + (π + 1 + j))) ∧ fc_ct M π 8 = .ref (fc_B g + (π + 6)) ∧ ∀ c, c < 4 → fc_ct M (π + 6) c = .ref (fc_B g + (π + 7 + c)))
  ∧ (S π 0 = nI f ∧ S π 1 = nI nC ∧ S π 2 = w 5 ∧ f ≤ 80 ∧ nC ≤ 4)
  ∧ (∀ c, c < nC → ∀ j, j < 5 → S (π + 1 + j) c = w (10 + 20 * c + (6 + j)))
  ∧ (∀ c, c < nC → ∀ q, q < f → S (π + 7 + c) q = bI (¬ w (100 + 80 * c + q) = nI 1))
  ∧ ∀ c, c < nC → ∃ r, r ≤ 12 ∧ w (10 + 20 * c + 6) = nI r
def PC (g : fc_G) (M : fc_M) (S : tT) (π β f nC : Nat) (w : Nat → Int32) : Prop := LF g M ∧ fc_ct M 0 14 = .ref (fc_B g + π) ∧ ((π + 11 ≤ β ∨ β + 67 ≤ π) ∧ (31 < π ∨ π + 11 ≤ 31) ∧ 31 < β) ∧ PO g M S π f nC w
def plI (i : Nat) : Prop := i = 5 ∨ (100 ≤ i ∧ i < 420) ∨ ∃ c j, c < 4 ∧ j < 5 ∧ i = 10 + 20 * c + (6 + j)
def SF (S S' : tT) (β : Nat) : Prop := ∀ a k, a ≠ 31 → ¬ (a = β ∧ k = 8) → S' a k = S a k
theorem kd2 {j : Nat} (hj : j < 5) : kdO (.inl 2) (3 + j) = 0 := by
  match j, hj with
  | 0, _ => rfl
  | 1, _ => rfl
  | 2, _ => rfl
  | 3, _ => rfl
  | 4, _ => rfl
section FCPC
variable {g : fc_G} {l : Launch} {y : MethodName} {cc : ByteArray} {nL : Nat} {ret : Option FieldType} {d n0 s0 : Nat} {M : fc_M} {pc : Nat} {L : List (Option Value)} {st : List Value} {Q : Outcome → fc_M → Prop} {S : tT} {U : tU} {β π f nC : Nat} {v : Nat → Int32}
theorem SF.refl : SF S S β := fun _ _ _ _ => rfl
theorem SF.trans {S1 S2 : tT} (h : SF S S1 β) (h2 : SF S1 S2 β) : SF S S2 β := fun a k e1 e2 => (h2 a k e1 e2).trans (h a k e1 e2)
theorem PC.fr (h : PC g M S π β f nC v) {v' : Nat → Int32} (e : ∀ i, plI i → v' i = v i) : PC g M S π β f nC v' := by
  obtain ⟨h1, h2, h3, a1, a2, ⟨b1, b2, b3, b4, b5⟩, a4, a5, a6⟩ := h
  refine ⟨h1, h2, h3, a1, a2, ⟨b1, b2, by rw [e 5 (Or.inl rfl)]; exact b3, b4, b5⟩, fun c hc j hj => ?_, fun c hc q hq => ?_, fun c hc => ?_⟩
  · rw [e _ (Or.inr (Or.inr ⟨c, j, by omega, hj, rfl⟩))]
    exact a4 c hc j hj
  · rw [e _ (Or.inr (Or.inl ⟨by omega, by omega⟩))]
    exact a5 c hc q hq
  · obtain ⟨r, hr, h⟩ := a6 c hc
    exact ⟨r, hr, by rw [e _ (Or.inr (Or.inr ⟨c, 0, by omega, by omega, rfl⟩))]; exact h⟩
theorem PC.sf {S' : tT} (h : PC g M S π β f nC v) (e : SF S S' β) : PC g M S' π β f nC v := by
  obtain ⟨h1, h2, ⟨h3, h4, h5⟩, a1, a2, ⟨b1, b2, b3, b4, b5⟩, a4, a5, a6⟩ := h
  refine ⟨h1, h2, ⟨h3, h4, h5⟩, a1, a2, ⟨(e _ _ (by omega) (by omega)).trans b1, (e _ _ (by omega) (by omega)).trans b2, (e _ _ (by omega) (by omega)).trans b3, b4, b5⟩, fun c hc j hj => ?_, fun c hc q hq => ?_, a6⟩
  · rw [e _ _ (by omega) (by omega)]
    exact a4 c hc j hj
  · rw [e _ _ (by omega) (by omega)]
    exact a5 c hc q hq
theorem k_plan {i : Nat} (hO : PC g M S π β f nC v) (hd : decode cc pc = .ok (.getfield i, 3)) (hq : Cond.fieldLink y.cls i (TX0 14).1 (TX0 14).2.1 (TX0 14).2.2.1 ∈ lw_all) (kk : fc_X g l y cc nL ret d n0 s0 (cR M S U β v) (pc + 3) L (.ref (fc_B g + π) :: st) Q) : fc_X g l y cc nL ret d n0 s0 (cR M S U β v) pc L (.ref (fc_B g + 0) :: st) Q :=
  x_getf 0 14 hd (C := RX0) (T := TX0) (N := 30) rfl (by omega) hq (show 0 < fc_nx M by have := hO.1.1; omega) (hO.1.2.2 0 _ rfl) ((cl_r (by rw [hO.1.2.2 0 _ rfl]; rfl)).trans hO.2.1) kk
theorem k_Fref {i b : Nat} (k : Nat) (hF : LF g M) (hk : lfR k = some b) (hk2 : k < 30) (hk3 : kdO (.inl 0) k = 0) (hd : decode cc pc = .ok (.getfield i, 3)) (hq : Cond.fieldLink y.cls i (TX0 k).1 (TX0 k).2.1 (TX0 k).2.2.1 ∈ lw_all) (kk : fc_X g l y cc nL ret d n0 s0 (cR M S U β v) (pc + 3) L (.ref (fc_B g + b) :: st) Q) : fc_X g l y cc nL ret d n0 s0 (cR M S U β v) pc L (.ref (fc_B g + 0) :: st) Q :=
  x_getf 0 k hd (C := RX0) (T := TX0) (N := 30) rfl hk2 hq (show 0 < fc_nx M by have := hF.1; omega) (hF.2.2 0 _ rfl) ((cl_r (by rw [hF.2.2 0 _ rfl]; exact hk3)).trans (hF.2.1 k b hk)) kk
theorem k_plF {i : Nat} (k : Nat) (r : Int32) (hO : PC g M S π β f nC v) (hr : (k = 0 ∧ r = nI f) ∨ (k = 1 ∧ r = nI nC) ∨ (k = 2 ∧ r = v 5)) (hd : decode cc pc = .ok (.getfield i, 3)) (hq : Cond.fieldLink y.cls i (TX2 k).1 (TX2 k).2.1 (TX2 k).2.2.1 ∈ lw_all) (kk : fc_X g l y cc nL ret d n0 s0 (cR M S U β v) (pc + 3) L (.int r :: st) Q) : fc_X g l y cc nL ret d n0 s0 (cR M S U β v) pc L (.ref (fc_B g + π) :: st) Q := by
  obtain ⟨h1, h2, ⟨h3, -, -⟩, ⟨a1, a2, -⟩, -, ⟨b1, b2, b3, -⟩, -⟩ := hO
  rcases hr with ⟨rfl, rfl⟩ | ⟨rfl, rfl⟩ | ⟨rfl, rfl⟩
  · exact x_getf 2 0 hd (C := RX2) (T := TX2) (N := 9) rfl (by omega) hq (show π < fc_nx M by omega) a2 ((cl_i (by rw [a2]; rfl)).trans (congrArg Value.int ((clr_o (by omega)).trans b1))) kk
  · exact x_getf 2 1 hd (C := RX2) (T := TX2) (N := 9) rfl (by omega) hq (show π < fc_nx M by omega) a2 ((cl_i (by rw [a2]; rfl)).trans (congrArg Value.int ((clr_o (by omega)).trans b2))) kk
  · exact x_getf 2 2 hd (C := RX2) (T := TX2) (N := 9) rfl (by omega) hq (show π < fc_nx M by omega) a2 ((cl_i (by rw [a2]; rfl)).trans (congrArg Value.int ((clr_o (by omega)).trans b3))) kk
theorem k_plA {i : Nat} (k j : Nat) (hO : PC g M S π β f nC v) (hk : k = 3 + j) (hj : j < 5) (hd : decode cc pc = .ok (.getfield i, 3)) (hq : Cond.fieldLink y.cls i (TX2 k).1 (TX2 k).2.1 (TX2 k).2.2.1 ∈ lw_all) (kk : fc_X g l y cc nL ret d n0 s0 (cR M S U β v) (pc + 3) L (.ref (fc_B g + (π + 1 + j)) :: st) Q) : fc_X g l y cc nL ret d n0 s0 (cR M S U β v) pc L (.ref (fc_B g + π) :: st) Q := by
  obtain ⟨h1, h2, -, ⟨a1, a2, -⟩, ⟨c1, c2, c3⟩, -⟩ := hO
  subst hk
  refine x_getf 2 (3 + j) hd (C := RX2) (T := TX2) (N := 9) rfl (by omega) hq (show π < fc_nx M by omega) a2 ((cl_r (by rw [a2]; exact kd2 hj)).trans (c1 j hj)) kk
theorem k_plS {i : Nat} (hO : PC g M S π β f nC v) (hd : decode cc pc = .ok (.getfield i, 3)) (hq : Cond.fieldLink y.cls i (TX2 8).1 (TX2 8).2.1 (TX2 8).2.2.1 ∈ lw_all) (kk : fc_X g l y cc nL ret d n0 s0 (cR M S U β v) (pc + 3) L (.ref (fc_B g + (π + 6)) :: st) Q) : fc_X g l y cc nL ret d n0 s0 (cR M S U β v) pc L (.ref (fc_B g + π) :: st) Q := by
  obtain ⟨h1, h2, -, ⟨a1, a2, -⟩, ⟨c1, c2, c3⟩, -⟩ := hO
  exact x_getf 2 8 hd (C := RX2) (T := TX2) (N := 9) rfl (by omega) hq (show π < fc_nx M by omega) a2 ((cl_r (by rw [a2]; rfl)).trans c2) kk
theorem k_planN {i : Nat} {host : String} (hO : PC g M S π β f nC v) (hd : decode cc pc = .ok (.getfield i, 3)) (hq : Cond.fieldLinkNest y.cls i (TX0 14).1 (TX0 14).2.1 (TX0 14).2.2.1 host ∈ lw_tbl) (kk : fc_X g l y cc nL ret d n0 s0 (cR M S U β v) (pc + 3) L (.ref (fc_B g + π) :: st) Q) : fc_X g l y cc nL ret d n0 s0 (cR M S U β v) pc L (.ref (fc_B g + 0) :: st) Q :=
  x_getN 0 14 hd (C := RX0) (T := TX0) (N := 30) rfl (by omega) hq (show 0 < fc_nx M by have := hO.1.1; omega) (hO.1.2.2 0 _ rfl) ((cl_r (by rw [hO.1.2.2 0 _ rfl]; rfl)).trans hO.2.1) kk
theorem k_FrefN {i b : Nat} {host : String} (k : Nat) (hF : LF g M) (hk : lfR k = some b) (hk2 : k < 30) (hk3 : kdO (.inl 0) k = 0) (hd : decode cc pc = .ok (.getfield i, 3)) (hq : Cond.fieldLinkNest y.cls i (TX0 k).1 (TX0 k).2.1 (TX0 k).2.2.1 host ∈ lw_tbl) (kk : fc_X g l y cc nL ret d n0 s0 (cR M S U β v) (pc + 3) L (.ref (fc_B g + b) :: st) Q) : fc_X g l y cc nL ret d n0 s0 (cR M S U β v) pc L (.ref (fc_B g + 0) :: st) Q :=
  x_getN 0 k hd (C := RX0) (T := TX0) (N := 30) rfl hk2 hq (show 0 < fc_nx M by have := hF.1; omega) (hF.2.2 0 _ rfl) ((cl_r (by rw [hF.2.2 0 _ rfl]; exact hk3)).trans (hF.2.1 k b hk)) kk
theorem k_plFN {i : Nat} {host : String} (k : Nat) (r : Int32) (hO : PC g M S π β f nC v) (hr : (k = 0 ∧ r = nI f) ∨ (k = 1 ∧ r = nI nC) ∨ (k = 2 ∧ r = v 5)) (hd : decode cc pc = .ok (.getfield i, 3)) (hq : Cond.fieldLinkNest y.cls i (TX2 k).1 (TX2 k).2.1 (TX2 k).2.2.1 host ∈ lw_tbl) (kk : fc_X g l y cc nL ret d n0 s0 (cR M S U β v) (pc + 3) L (.int r :: st) Q) : fc_X g l y cc nL ret d n0 s0 (cR M S U β v) pc L (.ref (fc_B g + π) :: st) Q := by
  obtain ⟨h1, h2, ⟨h3, -, -⟩, ⟨a1, a2, -⟩, -, ⟨b1, b2, b3, -⟩, -⟩ := hO
  rcases hr with ⟨rfl, rfl⟩ | ⟨rfl, rfl⟩ | ⟨rfl, rfl⟩
  · exact x_getN 2 0 hd (C := RX2) (T := TX2) (N := 9) rfl (by omega) hq (show π < fc_nx M by omega) a2 ((cl_i (by rw [a2]; rfl)).trans (congrArg Value.int ((clr_o (by omega)).trans b1))) kk
  · exact x_getN 2 1 hd (C := RX2) (T := TX2) (N := 9) rfl (by omega) hq (show π < fc_nx M by omega) a2 ((cl_i (by rw [a2]; rfl)).trans (congrArg Value.int ((clr_o (by omega)).trans b2))) kk
  · exact x_getN 2 2 hd (C := RX2) (T := TX2) (N := 9) rfl (by omega) hq (show π < fc_nx M by omega) a2 ((cl_i (by rw [a2]; rfl)).trans (congrArg Value.int ((clr_o (by omega)).trans b3))) kk
theorem k_plAN {i : Nat} {host : String} (k j : Nat) (hO : PC g M S π β f nC v) (hk : k = 3 + j) (hj : j < 5) (hd : decode cc pc = .ok (.getfield i, 3)) (hq : Cond.fieldLinkNest y.cls i (TX2 k).1 (TX2 k).2.1 (TX2 k).2.2.1 host ∈ lw_tbl) (kk : fc_X g l y cc nL ret d n0 s0 (cR M S U β v) (pc + 3) L (.ref (fc_B g + (π + 1 + j)) :: st) Q) : fc_X g l y cc nL ret d n0 s0 (cR M S U β v) pc L (.ref (fc_B g + π) :: st) Q := by
  obtain ⟨h1, h2, -, ⟨a1, a2, -⟩, ⟨c1, c2, c3⟩, -⟩ := hO
  subst hk
  refine x_getN 2 (3 + j) hd (C := RX2) (T := TX2) (N := 9) rfl (by omega) hq (show π < fc_nx M by omega) a2 ((cl_r (by rw [a2]; exact kd2 hj)).trans (c1 j hj)) kk
theorem k_plSN {i : Nat} {host : String} (hO : PC g M S π β f nC v) (hd : decode cc pc = .ok (.getfield i, 3)) (hq : Cond.fieldLinkNest y.cls i (TX2 8).1 (TX2 8).2.1 (TX2 8).2.2.1 host ∈ lw_tbl) (kk : fc_X g l y cc nL ret d n0 s0 (cR M S U β v) (pc + 3) L (.ref (fc_B g + (π + 6)) :: st) Q) : fc_X g l y cc nL ret d n0 s0 (cR M S U β v) pc L (.ref (fc_B g + π) :: st) Q := by
  obtain ⟨h1, h2, -, ⟨a1, a2, -⟩, ⟨c1, c2, c3⟩, -⟩ := hO
  exact x_getN 2 8 hd (C := RX2) (T := TX2) (N := 9) rfl (by omega) hq (show π < fc_nx M by omega) a2 ((cl_r (by rw [a2]; rfl)).trans c2) kk
theorem k_plL {c : Nat} (j m : Nat) (hm : 6 + j = m) (hO : PC g M S π β f nC v) (hj : j < 5) (hd : decode cc pc = .ok (.iaload, 1)) (hc : c < nC) (kk : fc_X g l y cc nL ret d n0 s0 (cR M S U β v) (pc + 1) L (.int (v (10 + 20 * c + m)) :: st) Q) : fc_X g l y cc nL ret d n0 s0 (cR M S U β v) pc L (.int (nI c) :: .ref (fc_B g + (π + 1 + j)) :: st) Q := by
  subst hm
  obtain ⟨h1, h2, ⟨h3, -, -⟩, ⟨a1, a2, a3, -⟩, -, ⟨b1, b2, b3, b4, b5⟩, a5, -⟩ := hO
  exact x_iald hd (show π + 1 + j < fc_nx M by omega) (a3 j hj) (by decide) (show c < 4 by omega) ((cl_i (by rw [a3 j hj]; rfl)).trans (congrArg Value.int ((clr_o (by omega)).trans (a5 c hc j hj)))) kk
theorem k_plR {c : Nat} (hO : PC g M S π β f nC v) (hd : decode cc pc = .ok (.aaload, 1)) (hc : c < nC) (kk : fc_X g l y cc nL ret d n0 s0 (cR M S U β v) (pc + 1) L (.ref (fc_B g + (π + 7 + c)) :: st) Q) : fc_X g l y cc nL ret d n0 s0 (cR M S U β v) pc L (.int (nI c) :: .ref (fc_B g + (π + 6)) :: st) Q := by
  obtain ⟨h1, h2, -, ⟨a1, a2, a3, a4, -⟩, ⟨c1, c2, c3⟩, ⟨b1, b2, b3, b4, b5⟩, -⟩ := hO
  exact x_aald hd (show π + 6 < fc_nx M by omega) a4 rfl (by decide) (show c < 4 by omega) ((cl_r (by rw [a4]; rfl)).trans (c3 c (by omega))) kk
theorem k_plZ {c q : Nat} (hO : PC g M S π β f nC v) (hd : decode cc pc = .ok (.baload, 1)) (hc : c < nC) (hq : q < f) (kk : fc_X g l y cc nL ret d n0 s0 (cR M S U β v) (pc + 1) L (.int (bI (¬ v (100 + 80 * c + q) = nI 1)) :: st) Q) : fc_X g l y cc nL ret d n0 s0 (cR M S U β v) pc L (.int (nI q) :: .ref (fc_B g + (π + 7 + c)) :: st) Q := by
  obtain ⟨h1, h2, ⟨h3, -, -⟩, ⟨a1, a2, a3, a4, a6⟩, -, ⟨b1, b2, b3, b4, b5⟩, -, a5, -⟩ := hO
  exact x_zald hd (show π + 7 + c < fc_nx M by omega) (a6 c (by omega)) (by decide) (show q < 80 by omega) ((cl_i (by rw [a6 c (by omega)]; rfl)).trans (congrArg Value.int ((clr_o (by omega)).trans (a5 c hc q hq)))) kk
end FCPC
/-- floors for fun; posts of a tower's methods -/
def FB (U : tU) (β f : Nat) (w : Nat → Int32) : Prop := ∀ c, c < 4 → ∀ q, b2 (U (β + 63 + c) 6) (U (β + 63 + c) 7) q = true ↔ (q < f ∧ w (420 + 80 * c + q) = nI 1)
def UF (U U' : tU) (β : Nat) : Prop := ∀ a k, (a < β ∨ β + 67 ≤ a) → U' a k = U a k
def cq_i (M : fc_M) (S : tT) (U : tU) (β f : Nat) (r : Int32) (w : Nat → Int32) : Outcome → fc_M → Prop := fun o M2 => o = .returned (some (.int r)) ∧ ∃ S' U', M2 = cR M S' U' β w ∧ FB U' β f w ∧ UF U U' β ∧ SF S S' β
def cq_v (M : fc_M) (S : tT) (U : tU) (β f : Nat) (w : Nat → Int32) : Outcome → fc_M → Prop := fun o M2 => o = .returned none ∧ ∃ S' U', M2 = cR M S' U' β w ∧ FB U' β f w ∧ UF U U' β ∧ SF S S' β
theorem UF.refl {U : tU} {β : Nat} : UF U U β := fun _ _ _ => rfl
theorem UF.trans {U U1 U2 : tU} {β : Nat} (h : UF U U1 β) (h2 : UF U1 U2 β) : UF U U2 β := fun a k e => (h2 a k e).trans (h a k e)

set_option maxRecDepth 100000
section T99E
variable {g : fc_G} {l : Launch} {M : fc_M} {S : tT} {U : tU} {w : Nat → Int32}
/-- what is only 0 or 1 -/
def isB (ps : tLs) : Prop := ∀ (fx : Nat → Int32) (v : Int32), (∀ st, lev fx ps st = v :: st) → v = nI 0 ∨ v = nI 1
/-- a text of the class at τ, as the row tells rule r -/
def TX (g : fc_G) (M : fc_M) (S : tT) (τ : Nat) (w : Nat → Int32) (r nl : Nat) : Prop :=
  (τ + 4 ≤ fc_nx M ∧ fc_sh M τ = .inl 1 ∧ fc_sh M (τ + 1) = .inr (.int, 16) ∧ fc_sh M (τ + 2) = .inr (.object "FourCars$Term", 16) ∧ fc_sh M (τ + 3) = .inr (.object "FourCars$Term", 16))
  ∧ (fc_ct M τ 0 = .ref (fc_B g + (τ + 1)) ∧ fc_ct M τ 1 = .ref (fc_B g + (τ + 2)) ∧ fc_ct M τ 2 = .ref (fc_B g + (τ + 3)))
  ∧ (S τ 3 = nI nl ∧ nl ≤ 16)
  ∧ ∀ i, i < nl → (S (τ + 1) i = w (1310 + (16 * r + i)) ∧ (w (1310 + (16 * r + i)) = nI 0 ∨ w (1310 + (16 * r + i)) = nI 1))
    ∧ ((toW w r i = miW w r i ∧ fc_ct M (τ + 3) i = .null) ∨ (¬ toW w r i = miW w r i ∧ ∃ x, fc_ct M (τ + 3) i = .ref (fc_B g + x) ∧ tmI g M S 402 x (stL w r (toW w r i - miW w r i) (miW w r i)) ∧ isB (stL w r (toW w r i - miW w r i) (miW w r i))))
    ∧ (¬ w (1310 + (16 * r + i)) = nI 1 → ∃ x, fc_ct M (τ + 2) i = .ref (fc_B g + x) ∧ tmI g M S 402 x (stL w r (miW w r i - frW w r i) (frW w r i)))
/-- the first line that is so -/
def fiW (w : Nat → Int32) (r : Nat) (fx : Nat → Int32) (nl : Nat) : Nat → Nat → Int32
  | 0, _ => -1
  | q + 1, i => if i < nl then (if ¬ toW w r i = miW w r i ∧ ¬ cdW w r fx (miW w r i) (toW w r i) = nI 1 then fiW w r fx nl q (i + 1) else nI i) else -1
theorem stE_congr {fx fy : Nat → Int32} (h : ∀ s, 0 < s → s < 11 → fx s = fy s) {q : Int32 × Int32} {st : List Int32} : stE fx q st = stE fy q st := by
  unfold stE
  by_cases h0 : q.1.toNatClampNeg = 0
  · rw [if_pos h0, if_pos h0]
  · rw [if_neg h0, if_neg h0]
    by_cases h1 : q.1.toNatClampNeg < 11
    · rw [if_pos h1, if_pos h1, h _ (by omega) h1]
    · rw [if_neg h1, if_neg h1]
theorem lev_congr {fx fy : Nat → Int32} (h : ∀ s, 0 < s → s < 11 → fx s = fy s) : ∀ (ps : tLs) (st : List Int32), lev fx ps st = lev fy ps st := by
  intro ps
  induction ps with
  | nil => intro st; rfl
  | cons q ps ih =>
    intro st
    show lev fx ps (stE fx q st) = lev fy ps (stE fy q st)
    rw [stE_congr h, ih]
set_option maxHeartbeats 1000000 in
theorem m_first {n0 s0 τ r nl : Nat} {fx : Nat → Int32} (hF : LF g M) (hT : TX g M S τ w r nl) (hV : RV w r nl) (hfx : ∀ s, 0 < s → s < 11 → hasF S s = fx s) : ∀ (k i : Nat), i ≤ nl → nl < i + k → fc_X g l yX1_first cX1_first 3 (some .int) 403 n0 s0 (cl M S U) 2 [some (.ref (fc_B g + τ)), some (.ref (fc_B g + 31)), some (.int (nI i))] [] (fc_re (fiW w r fx nl k i) (cl M S U)) := by
  intro k
  obtain ⟨⟨t1, t2, t3, t4, t5⟩, ⟨r1, r2, r3⟩, ⟨m1, m2⟩, hl⟩ := hT
  induction k with
  | zero => intro i h1 h2; omega
  | succ k ih =>
    intro i h1 h2
    refine x_iload_n dX1_first_2 rfl ?_
    refine x_aload_n dX1_first_3 rfl ?_
    refine q_geti 1 3 dX1_first_4 (C := RX1) (T := TX1) (N := 4) rfl (by decide) q189 (show τ < fc_nx M by omega) t2 rfl m1 ?_
    refine x_icmpN_ge (tgt := 40) dX1_first_7 (by decide) (by omega) (by omega) (fun hc7 => ?_) (fun hc7 => ?_)
    · refine x_icm1 dX1_first_40 ?_
      exact x_iret dX1_first_41 rfl rfl (fc_re.of2 (by rw [fiW, if_neg (by omega)]) rfl)
    · obtain ⟨-, hw, -⟩ := hl i hc7
      refine x_aload_n dX1_first_10 rfl ?_
      refine q_getr 1 2 dX1_first_11 (C := RX1) (T := TX1) (N := 4) rfl (by decide) q187 (show τ < fc_nx M by omega) t2 rfl r3 ?_
      refine x_iload_n dX1_first_14 rfl ?_
      rcases hw with ⟨he, hn⟩ | ⟨he, x, hx, htm, hB⟩
      · refine x_aald dX1_first_15 (show τ + 3 < fc_nx M by omega) t5 rfl (by decide) (show i < 16 by omega) ((cl_r (by rw [t5]; rfl)).trans hn) ?_
        refine x_ifnullN (tgt := 32) dX1_first_16 (by decide) ?_
        refine x_iload_n dX1_first_32 rfl ?_
        exact x_iret dX1_first_33 rfl rfl (fc_re.of2 (by rw [fiW, if_pos hc7, if_neg (fun z => z.1 he)]) rfl)
      · obtain ⟨v, e1, e2⟩ := tm_of (l := l) (U := U) hF 402 x _ htm
        have e3 : ∀ st, lev fx (stL w r (toW w r i - miW w r i) (miW w r i)) st = v :: st := fun st => by rw [← lev_congr hfx]; exact e1 st
        obtain ⟨v1, v2, v3, v4, v5, v6, v7, -⟩ := hV.2.2 i hc7
        have e4 := cd_lev v5 (v7 he) e3
        have hb := hB fx v e3
        refine x_aald dX1_first_15 (show τ + 3 < fc_nx M by omega) t5 rfl (by decide) (show i < 16 by omega) ((cl_r (by rw [t5]; rfl)).trans hx) ?_
        refine x_ifnull dX1_first_16 ?_
        refine x_aload_n dX1_first_19 rfl ?_
        refine q_getr 1 2 dX1_first_20 (C := RX1) (T := TX1) (N := 4) rfl (by decide) q187 (show τ < fc_nx M by omega) t2 rfl r3 ?_
        refine x_iload_n dX1_first_23 rfl ?_
        refine x_aald dX1_first_24 (show τ + 3 < fc_nx M by omega) t5 rfl (by decide) (show i < 16 by omega) ((cl_r (by rw [t5]; rfl)).trans hx) ?_
        refine x_aload_n dX1_first_25 rfl ?_
        refine x_of dX1_first_26 kA_X1_X9 kA_X1_X10 kA_X1_X11 kA_X1_X12 e2 (by omega) (Nat.le_of_ble_eq_true rfl) ?_
        refine x_if_eq (tgt := 34) dX1_first_29 (by decide) (fun hc29 => ?_) (fun hc29 => ?_)
        · refine x_iincN (n := 1) dX1_first_34 (by decide) rfl (by decide) rfl ?_
          refine x_goto (tgt := 2) dX1_first_37 (by decide) ?_
          rw [fiW, if_pos hc7, if_pos ⟨he, by rw [e4, hc29]; decide⟩]
          exact ih (i + 1) (by omega) (by omega)
        · refine x_iload_n dX1_first_32 rfl ?_
          refine x_iret dX1_first_33 rfl rfl (fc_re.of2 ?_ rfl)
          rw [fiW, if_pos hc7, if_neg (fun z => z.2 (by rw [e4]; exact hb.resolve_left (fun q => hc29 (by rw [q]; decide))))]
theorem d_first {τ r nl : Nat} {fx : Nat → Int32} (hF : LF g M) (hT : TX g M S τ w r nl) (hV : RV w r nl) (hfx : ∀ s, 0 < s → s < 11 → hasF S s = fx s) : fc_CX g l yX1_first cX1_first 3 (some .int) 403 [.ref (fc_B g + τ), .ref (fc_B g + 31)] (cl M S U) (fc_re (fiW w r fx nl (nl + 1) 0) (cl M S U)) := by
  refine fc_enter (by decide) (Nat.le_of_ble_eq_true rfl) rfl ?_
  refine x_ic0 dX1_first_0 ?_
  refine x_istore_n dX1_first_1 (by decide) rfl ?_
  exact m_first hF hT hV hfx (nl + 1) 0 (by omega) (by omega)
/-- by the first line: never, or a cost -/
theorem lnW_fi {r nl : Nat} {fx : Nat → Int32} : ∀ (q i : Nat), i ≤ nl → nl < i + q → (fiW w r fx nl q i = -1 ∧ lnW w r fx nl q i = some (nI 0)) ∨ ∃ j, j < nl ∧ fiW w r fx nl q i = nI j ∧ lnW w r fx nl q i = (if w (1310 + (16 * r + j)) = nI 1 then none else some (cdW w r fx (frW w r j) (miW w r j))) := by
  intro q
  induction q with
  | zero => intro i h1 h2; omega
  | succ q ih =>
    intro i h1 h2
    rw [fiW, lnW]
    by_cases hi : i < nl
    · rw [if_pos hi, if_pos hi]
      by_cases hc : ¬ toW w r i = miW w r i ∧ ¬ cdW w r fx (miW w r i) (toW w r i) = nI 1
      · rw [if_pos hc, if_pos hc]
        exact ih (i + 1) (by omega) (by omega)
      · rw [if_neg hc, if_neg hc]
        exact Or.inr ⟨i, hi, rfl, rfl⟩
    · rw [if_neg hi, if_neg hi]
      exact Or.inl ⟨rfl, rfl⟩
end T99E

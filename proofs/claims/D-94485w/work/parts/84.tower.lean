set_option maxRecDepth 100000
section T84
variable {g : fc_G} {l : Launch} {M : fc_M} {T : tT} {w : Nat → Int32} {E : tEn}
def pNu (E : tEn) (a b : Int32) (q : tTk) : Except tEr tTk := if q.2.2.1 = nI 2 then (if a ≤ q.2.2.2 ∧ q.2.2.2 ≤ b then .ok (nxt E q) else .error (nI 2, q.1)) else .error (nI 1, q.1)
def nP (E : tEn) (T0 : tT) (q0 : tTk) (n dep j : Nat) (q : tTk) (ps : tLs) (a b : Int32) (r : Int32) (T2 : tT) : Prop := (∃ e, pNu E a b q = .error e ∧ r = nI 0 ∧ rE T0 e T2) ∨ (pNu E a b q = .ok (nxt E q) ∧ (a ≤ q.2.2.2 ∧ q.2.2.2 ≤ b) ∧ r = nI 1 ∧ rO E T0 q0 n dep (j + 1) (nxt E q, ps) T2)
set_option maxHeartbeats 1000000 in
theorem c_number (hM : tw0 + 17 ≤ fc_nx M) {T0 : tT} {q0 q : tTk} {n dep j : Nat} {ps : tLs} (h : rO E T0 q0 n dep j (q, ps) T) {a b : Int32} : fc_CX g l yX6_number cX6_number 3 (some .boolean) 9 [.ref (fc_B g + tw0), .int a, .int b] (tv g M T w) (tv_p g M w (nP E T0 q0 n dep j q ps a b)) := by
  refine fc_enter (by decide) (Nat.le_of_ble_eq_true rfl) rfl ?_
  refine x_aload_n dX6_number_0 rfl ?_
  refine v_geti 18 hM dX6_number_1 (by decide) rfl q1148 ?_
  refine x_top h.tok ?_
  refine x_ic2 dX6_number_4 ?_
  refine x_icmp_eq (tgt := 14) dX6_number_5 (by decide) (fun hc5 => ?_) (fun hc5 => ?_)
  · refine x_aload_n dX6_number_14 rfl ?_
    refine v_geti 20 hM dX6_number_15 (by decide) rfl q1150 ?_
    refine x_top h.val ?_
    refine x_iload_n dX6_number_18 rfl ?_
    refine x_iload_n dX6_number_19 rfl ?_
    refine v_S3ie dX6_number_20 kG_X6_X6_isIn kP_X6_isIn (by omega) (by decide) (Nat.le_of_ble_eq_true rfl) c_isIn ?_
    refine x_ifB_ne (tgt := 32) dX6_number_23 (by decide) (fun hc23 => ?_) (fun hc23 => ?_)
    · refine x_aload_n dX6_number_32 rfl ?_
      have b1 := nxt_lt h.tk (by rw [hc5]; decide)
      refine y_V0q hM dX6_number_33 kG_X6_X6_next0 kP_X6_next0 rfl (by omega) (by decide) (Nat.le_of_ble_eq_true rfl) (c_nextO hM h (by rw [hc5]; decide)) (fun T1 h1 => ?_)
      refine x_ic1 dX6_number_36 ?_
      exact x_iret dX6_number_37 rfl (by rfl) (tv_pe (Or.inr ⟨(if_pos hc5).trans (if_pos hc23), hc23, rfl, h1⟩))
    · refine x_aload_n dX6_number_26 rfl ?_
      refine x_ic2 dX6_number_27 ?_
      refine y_V1p hM dX6_number_28 kG_X6_X6_bad kP_X6_bad rfl (by omega) (by decide) (Nat.le_of_ble_eq_true rfl) (c_badO hM h) (fun r1 T1 hp1 => ?_)
      obtain ⟨hr1, hE1⟩ := hp1
      subst hr1
      exact x_iret dX6_number_31 rfl (by rfl) (tv_pe (Or.inl ⟨_, (if_pos hc5).trans (if_neg hc23), rfl, hE1⟩))
  · refine x_aload_n dX6_number_8 rfl ?_
    refine x_ic1 dX6_number_9 ?_
    refine y_V1p hM dX6_number_10 kG_X6_X6_bad kP_X6_bad rfl (by omega) (by decide) (Nat.le_of_ble_eq_true rfl) (c_badO hM h) (fun r1 T1 hp1 => ?_)
    obtain ⟨hr1, hE1⟩ := hp1
    subst hr1
    exact x_iret dX6_number_13 rfl (by rfl) (tv_pe (Or.inl ⟨_, if_neg hc5, rfl, hE1⟩))
abbrev tXs : Type := Int32 × Nat × (Nat → Int32) × (Nat → Int32)
def xT (T : tT) (X : tXs) : Prop := T 0 14 = X.1 ∧ T 0 15 = nI X.2.1 ∧ T 6 = X.2.2.1 ∧ T 10 = X.2.2.2
def rC (T B : tT) : Prop := ∀ a k, a ≠ 6 → a ≠ 10 → ¬ (a = 0 ∧ (k = 14 ∨ k = 15)) → B a k = T a k
theorem rC_refl : rC T T := fun _ _ _ _ _ => rfl
theorem rC_6 {B : tT} {i : Nat} {v : Int32} (h : rC T B) : rC T (tu B 6 i v) := fun a k h6 h10 h0 => by
  rw [← h a k h6 h10 h0]
  simp [tu, h6]
theorem rC_10 {B : tT} {i : Nat} {v : Int32} (h : rC T B) : rC T (tu B 10 i v) := fun a k h6 h10 h0 => by
  rw [← h a k h6 h10 h0]
  simp [tu, h10]
theorem rC_f {B : tT} {i : Nat} {v : Int32} (hi : i = 14 ∨ i = 15) (h : rC T B) : rC T (tu B 0 i v) := fun a k h6 h10 h0 => by
  rw [← h a k h6 h10 h0]
  exact if_neg (fun (e : a = 0 ∧ k = i) => h0 ⟨e.1, e.2 ▸ hi⟩)
def xP (E : tEn) (T : tT) (q : tTk) (dep : Nat) (R : Except tEr (tTk × tXs)) (r : Int32) (T2 : tT) : Prop := match R with
  | .error e => r = nI 0 ∧ ∃ B, rC T B ∧ rE B e T2
  | .ok x => r = nI 1 ∧ ∃ B, rC T B ∧ xT B x.2 ∧ rO E B q 0 dep 1 (x.1, []) T2
theorem xP_e {q : tTk} {dep : Nat} {T2 B : tT} {R : Except tEr (tTk × tXs)} {e : tEr} (h : R = .error e) (hB : rC T B) (h2 : rE B e T2) : xP E T q dep R (nI 0) T2 := by rw [h]; exact ⟨rfl, B, hB, h2⟩
theorem xP_k {q q2 : tTk} {dep j : Nat} {T2 B : tT} {R : Except tEr (tTk × tXs)} {X : tXs} (h : R = .ok (q2, X)) (hB : rC T B) (hX : xT B X) (h2 : rO E B q 0 dep (j + 1) (q2, []) T2) : xP E T q dep R (nI 1) T2 := by rw [h]; exact ⟨rfl, B, hB, hX, h2.ge (by omega)⟩
theorem xP_or {q : tTk} {dep : Nat} {T2 : tT} {r : Int32} {R : Except tEr (tTk × tXs)} (h : xP E T q dep R r T2) : (∃ e, R = .error e ∧ r = nI 0 ∧ ∃ B, rC T B ∧ rE B e T2) ∨ (∃ q2 X, R = .ok (q2, X) ∧ r = nI 1 ∧ ∃ B, rC T B ∧ xT B X ∧ rO E B q 0 dep 1 (q2, []) T2) := by
  cases R with
  | error e => exact Or.inl ⟨e, rfl, h.1, h.2⟩
  | ok x => exact Or.inr ⟨x.1, x.2, rfl, h.1, h.2⟩
theorem rO.stf {T0 : tT} {q0 q1 : tTk} {n dep j : Nat} {ps : tLs} (h : rO E T0 q0 n dep j (q1, ps) T) (i : Nat) (v : Int32) (hi : i = 12 ∨ i = 14 ∨ i = 15) : rO E (tu T0 0 i v) q0 n dep j (q1, ps) (tu T 0 i v) := by
  have z : ∀ (X : tT) (k : Nat), k ≠ i → tu X 0 i v 0 k = X 0 k := fun X k hk => if_neg (fun e => hk e.2)
  have za : ∀ (X : tT) (a k : Nat), a ≠ 0 → tu X 0 i v a k = X a k := fun X a k ha => if_neg (fun e => ha e.1)
  obtain ⟨a1, ⟨w1, w2, w3, w4⟩, ⟨c1, c2, c3, c4, c5, c6, c7⟩, ⟨d1, d2⟩, r1, r2⟩ := h
  refine ⟨⟨fun a k e5 e0 => ?_, fun k hk => ?_⟩, ⟨(z _ _ (by omega)).trans w1, ?_, (z _ _ (by omega)).trans w3, w4⟩, ⟨(z _ _ (by omega)).trans c1, (z _ _ (by omega)).trans c2, (z _ _ (by omega)).trans c3, (z _ _ (by omega)).trans c4, (z _ _ (by omega)).trans c5, (z _ _ (by omega)).trans c6, ?_⟩, ⟨fun k hk => ?_, fun i2 p hp => ?_⟩, r1, r2⟩
  · rw [za _ _ _ e0, za _ _ _ e0]
    exact a1.1 a k e5 e0
  · by_cases e : k = i
    · subst e
      simp [tu]
    · rw [z _ _ e, z _ _ e]
      exact a1.2 k hk
  · rw [← w2]
    funext k
    exact za _ _ _ (by decide)
  · rw [z _ _ (by omega), z _ _ (by omega)]
    exact c7
  · rw [za _ _ _ (by decide), za _ _ _ (by decide)]
    exact d1 k hk
  · rw [za _ _ _ (by decide), za _ _ _ (by decide)]
    exact d2 i2 p hp
def pFl (E : tEn) (q : tTk) (X : tXs) : Except tEr (tTk × tXs) := if X.1 ≤ 0 then (match pNu E (nI 2) (nI 80) (nxt E q) with
  | .error e => .error e
  | .ok q2 => .ok (q2, (nxt E q).2.2.2, X.2)) else .error (nI 1, q.1)
theorem pFl_e {q : tTk} {X : tXs} {e : tEr} (h0 : X.1 ≤ 0) (h : pNu E (nI 2) (nI 80) (nxt E q) = .error e) : pFl E q X = .error e := by rw [pFl, if_pos h0, h]
theorem pFl_k {q q2 : tTk} {X : tXs} (h0 : X.1 ≤ 0) (h : pNu E (nI 2) (nI 80) (nxt E q) = .ok q2) : pFl E q X = .ok (q2, (nxt E q).2.2.2, X.2) := by rw [pFl, if_pos h0, h]
def cLo (i : Nat) : Int32 := if i < 3 then nI 1 else nI 0
def cHi (fl : Int32) (i : Nat) : Int32 := if i = 0 then nI 12 else if i = 4 then fl - nI 1 else nI 9
def pCL (E : tEn) (fl : Int32) (nc : Nat) : Nat → Nat → tTk → (Nat → Int32) → Except tEr (tTk × (Nat → Int32))
  | 0, _, q, K => .ok (q, K)
  | m + 1, i, q, K => if i < 5 then (match pNu E (cLo i) (cHi fl i) q with
    | .error e => .error e
    | .ok q2 => pCL E fl nc m (i + 1) q2 (up K (10 * nc + i) q.2.2.2)) else .ok (q, K)
theorem pCL_e {fl : Int32} {nc m i : Nat} {q : tTk} {K : Nat → Int32} {e : tEr} (hi : i < 5) (h : pNu E (cLo i) (cHi fl i) q = .error e) : pCL E fl nc (m + 1) i q K = .error e := by rw [pCL, if_pos hi, h]
theorem pCL_k {fl : Int32} {nc m i : Nat} {q q2 : tTk} {K : Nat → Int32} (hi : i < 5) (h : pNu E (cLo i) (cHi fl i) q = .ok q2) : pCL E fl nc (m + 1) i q K = pCL E fl nc m (i + 1) q2 (up K (10 * nc + i) q.2.2.2) := by rw [pCL, if_pos hi, h]
def pCf (X : tXs) (R : Except tEr (tTk × (Nat → Int32))) : Except tEr (tTk × tXs) := match R with
  | .error e => .error e
  | .ok x => .ok (x.1, X.1, X.2.1 + 1, x.2, X.2.2.2)
def pCr (E : tEn) (q : tTk) (X : tXs) : Except tEr (tTk × tXs) := if X.1 = 0 then .error (nI 1, q.1) else if X.2.1 = 4 then .error (nI 3, q.1) else pCf X (pCL E X.1 X.2.1 6 0 (nxt E q) X.2.2.1)
def pSk (E : tEn) (q : tTk) (X : tXs) : Except tEr (tTk × tXs) := if X.1 = 0 then .error (nI 1, q.1) else match pNu E (nI 0) (nI X.2.1 - nI 1) (nxt E q) with
  | .error e => .error e
  | .ok q2 => match pNu E (nI 0) (X.1 - nI 1) q2 with
    | .error e => .error e
    | .ok q3 => .ok (q3, X.1, X.2.1, X.2.2.1, up X.2.2.2 (80 * (nxt E q).2.2.2.toNatClampNeg + q2.2.2.2.toNatClampNeg) (nI 1))
theorem pSk_e {q : tTk} {X : tXs} {e : tEr} (h0 : ¬ X.1 = 0) (h : pNu E (nI 0) (nI X.2.1 - nI 1) (nxt E q) = .error e) : pSk E q X = .error e := by rw [pSk, if_neg h0, h]
theorem pSk_f {q q2 : tTk} {X : tXs} {e : tEr} (h0 : ¬ X.1 = 0) (h : pNu E (nI 0) (nI X.2.1 - nI 1) (nxt E q) = .ok q2) (h2 : pNu E (nI 0) (X.1 - nI 1) q2 = .error e) : pSk E q X = .error e := by rw [pSk, if_neg h0, h]; simp only [h2]
theorem pSk_k {q q2 q3 : tTk} {X : tXs} (h0 : ¬ X.1 = 0) (h : pNu E (nI 0) (nI X.2.1 - nI 1) (nxt E q) = .ok q2) (h2 : pNu E (nI 0) (X.1 - nI 1) q2 = .ok q3) : pSk E q X = .ok (q3, X.1, X.2.1, X.2.2.1, up X.2.2.2 (80 * (nxt E q).2.2.2.toNatClampNeg + q2.2.2.2.toNatClampNeg) (nI 1)) := by rw [pSk, if_neg h0, h]; simp only [h2]
theorem kG_X6_X6_number : GoodIn lw_all (wsV RX6 211 RX6 yX6_number (ws_ yX6_number cX6_number 3 (some .boolean))) := lw_V q1365 q1367 qs69 q124 q1368
theorem kP_X6_number : kPar yX6_number 2 := by decide +kernel
set_option maxHeartbeats 1000000 in
theorem c_floors (hM : tw0 + 17 ≤ fc_nx M) {q : tTk} {dep : Nat} (h : rI E T q 0 dep) (hc : q.2.2.1 ≠ nI 0) {X : tXs} (hX : xT T X) : fc_CX g l yX6_floors cX6_floors 2 (some .boolean) 10 [.ref (fc_B g + tw0)] (tv g M T w) (tv_p g M w (xP E T q dep (pFl E q X))) := by
  refine fc_enter (by decide) (Nat.le_of_ble_eq_true rfl) rfl ?_
  refine x_aload_n dX6_floors_0 rfl ?_
  refine v_geti 14 hM dX6_floors_1 (by decide) rfl q1144 ?_
  refine x_top hX.1 ?_
  refine x_if_le (tgt := 13) dX6_floors_4 (by decide) (fun hc4 => ?_) (fun hc4 => ?_)
  · refine x_aload_n dX6_floors_13 rfl ?_
    have b1 := nxt_lt h.tk (hc)
    refine y_V0q hM dX6_floors_14 kG_X6_X6_next0 kP_X6_next0 rfl (by omega) (by decide) (Nat.le_of_ble_eq_true rfl) (c_nextO hM h (hc)) (fun T1 h1 => ?_)
    refine x_aload_n dX6_floors_17 rfl ?_
    refine v_geti 20 hM dX6_floors_18 (by decide) rfl q1150 ?_
    refine x_top h1.val ?_
    refine x_istore_n dX6_floors_21 (by decide) rfl ?_
    refine x_aload_n dX6_floors_22 rfl ?_
    refine x_ic2 dX6_floors_23 ?_
    refine x_bipush (v := nI 80) dX6_floors_24 (by decide) ?_
    refine y_V2p hM dX6_floors_26 kG_X6_X6_number kP_X6_number rfl (by omega) (by decide) (Nat.le_of_ble_eq_true rfl) (c_number hM h1) (fun r2 T2 hp2 => ?_)
    rcases hp2 with ⟨e2, hR2, hr2, hE2⟩ | ⟨hR2, hv2, hr2, h2⟩
    · subst hr2
      refine x_ifN_ne (tgt := 34) dX6_floors_29 (by decide) (by decide) (fun hc29 => absurd hc29 (by decide)) (fun _ => ?_)
      refine x_ic0 dX6_floors_32 ?_
      exact x_iret dX6_floors_33 rfl (by rfl) (tv_pe (xP_e (pFl_e hc4 hR2) rC_refl (hE2)))
    · subst hr2
      refine x_ifN_ne (tgt := 34) dX6_floors_29 (by decide) (by decide) (fun _ => ?_) (fun hc29 => absurd hc29 (by decide))
      refine x_aload_n dX6_floors_34 rfl ?_
      refine x_iload_n dX6_floors_35 rfl ?_
      refine v_puti 14 hM dX6_floors_36 (by decide) rfl q1144 rfl rfl rfl ?_
      refine x_ic1 dX6_floors_39 ?_
      exact x_iret dX6_floors_40 rfl (by rfl) (tv_pe (xP_k (pFl_k hc4 hR2) (rC_f (Or.inl rfl) rC_refl) (show xT (tu T 0 14 (nxt E q).2.2.2) ((nxt E q).2.2.2, X.2) from ⟨rfl, hX.2.1, hX.2.2.1, hX.2.2.2⟩) (h2.stf 14 (nxt E q).2.2.2 (by decide))))
  · refine x_aload_n dX6_floors_7 rfl ?_
    refine x_ic1 dX6_floors_8 ?_
    refine y_V1p hM dX6_floors_9 kG_X6_X6_bad kP_X6_bad rfl (by omega) (by decide) (Nat.le_of_ble_eq_true rfl) (c_badO hM h) (fun r1 T1 hp1 => ?_)
    obtain ⟨hr1, hE1⟩ := hp1
    subst hr1
    exact x_iret dX6_floors_12 rfl (by rfl) (tv_pe (xP_e (if_neg hc4) rC_refl hE1))
theorem tu_sam {B : tT} {j i : Nat} {v : Int32} : (tu B j i v) j = up (B j) i v := by
  funext k
  simp [tu, up]
set_option maxHeartbeats 1000000 in
theorem l_aCar {n0 s0 : Nat} (hM : tw0 + 17 ≤ fc_nx M) {q : tTk} {dep : Nat} {X : tXs} (hnc : X.2.1 < 4) : ∀ (k i : Nat) (T1 B : tT) (q1 : tTk) (K : Nat → Int32) (j : Nat) (o2 o3 : Option Value), rC T B → xT B (X.1, X.2.1, K, X.2.2.2) → rO E B q 0 dep (j + 1) (q1, []) T1 → i ≤ 5 → 5 < i + k → fc_X g l yX6_aCar cX6_aCar 4 (some .boolean) 10 n0 s0 (tv g M T1 w) 33 [some (.ref (fc_B g + tw0)), some (.int (nI i)), o2, o3] [] (tv_p g M w (xP E T q dep (pCf X (pCL E X.1 X.2.1 k i q1 K)))) := by
  intro k
  induction k with
  | zero => intro i T1 B q1 K j o2 o3 hB hX h h1 h2; omega
  | succ k ih =>
    intro i T1 B q1 K j o2 o3 hB hX h h1 h2
    refine x_iload_n dX6_aCar_33 rfl ?_
    refine x_ic5 dX6_aCar_34 ?_
    refine x_icmpN_ge (tgt := 110) dX6_aCar_35 (by decide) (by omega) (by omega) (fun hc35 => ?_) (fun hc35 => ?_)
    · refine x_aload_n dX6_aCar_110 rfl ?_
      refine x_dup dX6_aCar_111 rfl ?_
      refine v_geti 15 hM dX6_aCar_112 (by decide) rfl q1145 ?_
      refine x_top (w := nI X.2.1) ((h.1.2 15 (Or.inr (Or.inr (Or.inl rfl)))).trans hX.2.1) ?_
      refine x_ic1 dX6_aCar_115 ?_
      refine x_iaddN dX6_aCar_116 ?_
      refine v_puti 15 hM dX6_aCar_117 (by decide) rfl q1145 rfl rfl rfl ?_
      refine x_ic1 dX6_aCar_120 ?_
      exact x_iret dX6_aCar_121 rfl (by rfl) (tv_pe (xP_k (j := j) (by rw [pCL, if_neg (by omega)]; rfl) (rC_f (Or.inr rfl) hB) (show xT (tu B 0 15 (nI (X.2.1 + 1))) (X.1, X.2.1 + 1, K, X.2.2.2) from ⟨hX.1, rfl, hX.2.2.1, hX.2.2.2⟩) (h.stf 15 (nI (X.2.1 + 1)) (by decide))))
    · refine x_aload_n dX6_aCar_38 rfl ?_
      refine v_geta 6 hM dX6_aCar_39 (by decide) rfl q1136 ?_
      refine x_bipush (v := nI 10) dX6_aCar_42 (by decide) ?_
      refine x_aload_n dX6_aCar_44 rfl ?_
      refine v_geti 15 hM dX6_aCar_45 (by decide) rfl q1145 ?_
      refine x_top (w := nI X.2.1) ((h.1.2 15 (Or.inr (Or.inr (Or.inl rfl)))).trans hX.2.1) ?_
      refine x_imulN dX6_aCar_48 ?_
      refine x_iload_n dX6_aCar_49 rfl ?_
      refine x_iaddN dX6_aCar_50 ?_
      refine x_aload_n dX6_aCar_51 rfl ?_
      refine v_geti 20 hM dX6_aCar_52 (by decide) rfl q1150 ?_
      refine x_top h.val ?_
      refine v_iast 6 hM dX6_aCar_55 (by decide) (by decide) rfl rfl (by show _ < 40; omega) ?_
      have h2 := h.sta 6 (10 * X.2.1 + i) q1.2.2.2 (by decide) (by decide) (by decide)
      refine x_iload_n dX6_aCar_56 rfl ?_
      refine x_ic3 dX6_aCar_57 ?_
      refine x_icmpN_ge (tgt := 65) dX6_aCar_58 (by decide) (by omega) (by omega) (fun hc58 => ?_) (fun hc58 => ?_)
      · refine x_ic0 dX6_aCar_65 ?_
        refine x_istore_n dX6_aCar_66 (by decide) rfl ?_
        refine x_iload_n dX6_aCar_67 rfl ?_
        refine x_ifN_ne (tgt := 76) dX6_aCar_68 (by decide) (by omega) (fun hc68 => ?_) (fun hc68 => ?_)
        · refine x_iload_n dX6_aCar_76 rfl ?_
          refine x_ic4 dX6_aCar_77 ?_
          refine x_icmpN_ne (tgt := 90) dX6_aCar_78 (by decide) (by omega) (by omega) (fun hc78 => ?_) (fun hc78 => ?_)
          · refine x_bipush (v := nI 9) dX6_aCar_90 (by decide) ?_
            refine x_istore_n dX6_aCar_92 (by decide) rfl ?_
            refine x_aload_n dX6_aCar_93 rfl ?_
            refine x_iload_n dX6_aCar_94 rfl ?_
            refine x_iload_n dX6_aCar_95 rfl ?_
            have eR : pNu E (cLo i) (cHi X.1 i) q1 = pNu E (nI 0) (nI 9) q1 := by rw [show cLo i = nI 0 from if_neg (by omega), show cHi X.1 i = nI 9 from (if_neg (by omega)).trans (if_neg (by omega))]
            refine y_V2p hM dX6_aCar_96 kG_X6_X6_number kP_X6_number rfl (by omega) (by decide) (Nat.le_of_ble_eq_true rfl) (c_number hM h2) (fun r3 T3 hp3 => ?_)
            rcases hp3 with ⟨e3, hR3, hr3, hE3⟩ | ⟨hR3, hv3, hr3, h3⟩
            · subst hr3
              refine x_ifN_ne (tgt := 104) dX6_aCar_99 (by decide) (by decide) (fun hc99 => absurd hc99 (by decide)) (fun _ => ?_)
              refine x_ic0 dX6_aCar_102 ?_
              exact x_iret dX6_aCar_103 rfl (by rfl) (tv_pe (xP_e (by rw [pCL_e hc35 (eR.trans hR3)]; rfl) (rC_6 hB) (hE3)))
            · subst hr3
              refine x_ifN_ne (tgt := 104) dX6_aCar_99 (by decide) (by decide) (fun _ => ?_) (fun hc99 => absurd hc99 (by decide))
              refine x_iincN (n := 1) dX6_aCar_104 (by decide) rfl (by decide) rfl ?_
              refine x_goto (tgt := 33) dX6_aCar_107 (by decide) ?_
              rw [pCL_k hc35 (eR.trans hR3)]
              exact ih (i + 1) _ _ _ _ _ _ _ (rC_6 hB) ⟨hX.1, hX.2.1, by rw [tu_sam, hX.2.2.1], hX.2.2.2⟩ h3 (by omega) (by omega)
          · refine x_aload_n dX6_aCar_81 rfl ?_
            refine v_geti 14 hM dX6_aCar_82 (by decide) rfl q1144 ?_
            refine x_top (w := X.1) ((h2.1.2 14 (Or.inr (Or.inl rfl))).trans hX.1) ?_
            refine x_ic1 dX6_aCar_85 ?_
            refine x_isub dX6_aCar_86 ?_
            refine x_goto (tgt := 92) dX6_aCar_87 (by decide) ?_
            refine x_istore_n dX6_aCar_92 (by decide) rfl ?_
            refine x_aload_n dX6_aCar_93 rfl ?_
            refine x_iload_n dX6_aCar_94 rfl ?_
            refine x_iload_n dX6_aCar_95 rfl ?_
            have eR : pNu E (cLo i) (cHi X.1 i) q1 = pNu E (nI 0) (X.1 - nI 1) q1 := by rw [show cLo i = nI 0 from if_neg (by omega), show cHi X.1 i = X.1 - nI 1 from (if_neg (by omega)).trans (if_pos (by omega))]
            refine y_V2p hM dX6_aCar_96 kG_X6_X6_number kP_X6_number rfl (by omega) (by decide) (Nat.le_of_ble_eq_true rfl) (c_number hM h2) (fun r3 T3 hp3 => ?_)
            rcases hp3 with ⟨e3, hR3, hr3, hE3⟩ | ⟨hR3, hv3, hr3, h3⟩
            · subst hr3
              refine x_ifN_ne (tgt := 104) dX6_aCar_99 (by decide) (by decide) (fun hc99 => absurd hc99 (by decide)) (fun _ => ?_)
              refine x_ic0 dX6_aCar_102 ?_
              exact x_iret dX6_aCar_103 rfl (by rfl) (tv_pe (xP_e (by rw [pCL_e hc35 (eR.trans hR3)]; rfl) (rC_6 hB) (hE3)))
            · subst hr3
              refine x_ifN_ne (tgt := 104) dX6_aCar_99 (by decide) (by decide) (fun _ => ?_) (fun hc99 => absurd hc99 (by decide))
              refine x_iincN (n := 1) dX6_aCar_104 (by decide) rfl (by decide) rfl ?_
              refine x_goto (tgt := 33) dX6_aCar_107 (by decide) ?_
              rw [pCL_k hc35 (eR.trans hR3)]
              exact ih (i + 1) _ _ _ _ _ _ _ (rC_6 hB) ⟨hX.1, hX.2.1, by rw [tu_sam, hX.2.2.1], hX.2.2.2⟩ h3 (by omega) (by omega)
        · exact absurd hc68 (by omega)
      · refine x_ic1 dX6_aCar_61 ?_
        refine x_goto (tgt := 66) dX6_aCar_62 (by decide) ?_
        refine x_istore_n dX6_aCar_66 (by decide) rfl ?_
        refine x_iload_n dX6_aCar_67 rfl ?_
        refine x_ifN_ne (tgt := 76) dX6_aCar_68 (by decide) (by omega) (fun hc68 => ?_) (fun hc68 => ?_)
        · refine x_iload_n dX6_aCar_76 rfl ?_
          refine x_ic4 dX6_aCar_77 ?_
          refine x_icmpN_ne (tgt := 90) dX6_aCar_78 (by decide) (by omega) (by omega) (fun hc78 => ?_) (fun hc78 => ?_)
          · refine x_bipush (v := nI 9) dX6_aCar_90 (by decide) ?_
            refine x_istore_n dX6_aCar_92 (by decide) rfl ?_
            refine x_aload_n dX6_aCar_93 rfl ?_
            refine x_iload_n dX6_aCar_94 rfl ?_
            refine x_iload_n dX6_aCar_95 rfl ?_
            have eR : pNu E (cLo i) (cHi X.1 i) q1 = pNu E (nI 1) (nI 9) q1 := by rw [show cLo i = nI 1 from if_pos (by omega), show cHi X.1 i = nI 9 from (if_neg (by omega)).trans (if_neg (by omega))]
            refine y_V2p hM dX6_aCar_96 kG_X6_X6_number kP_X6_number rfl (by omega) (by decide) (Nat.le_of_ble_eq_true rfl) (c_number hM h2) (fun r3 T3 hp3 => ?_)
            rcases hp3 with ⟨e3, hR3, hr3, hE3⟩ | ⟨hR3, hv3, hr3, h3⟩
            · subst hr3
              refine x_ifN_ne (tgt := 104) dX6_aCar_99 (by decide) (by decide) (fun hc99 => absurd hc99 (by decide)) (fun _ => ?_)
              refine x_ic0 dX6_aCar_102 ?_
              exact x_iret dX6_aCar_103 rfl (by rfl) (tv_pe (xP_e (by rw [pCL_e hc35 (eR.trans hR3)]; rfl) (rC_6 hB) (hE3)))
            · subst hr3
              refine x_ifN_ne (tgt := 104) dX6_aCar_99 (by decide) (by decide) (fun _ => ?_) (fun hc99 => absurd hc99 (by decide))
              refine x_iincN (n := 1) dX6_aCar_104 (by decide) rfl (by decide) rfl ?_
              refine x_goto (tgt := 33) dX6_aCar_107 (by decide) ?_
              rw [pCL_k hc35 (eR.trans hR3)]
              exact ih (i + 1) _ _ _ _ _ _ _ (rC_6 hB) ⟨hX.1, hX.2.1, by rw [tu_sam, hX.2.2.1], hX.2.2.2⟩ h3 (by omega) (by omega)
          · exact absurd hc78 (by omega)
        · refine x_bipush (v := nI 12) dX6_aCar_71 (by decide) ?_
          refine x_goto (tgt := 92) dX6_aCar_73 (by decide) ?_
          refine x_istore_n dX6_aCar_92 (by decide) rfl ?_
          refine x_aload_n dX6_aCar_93 rfl ?_
          refine x_iload_n dX6_aCar_94 rfl ?_
          refine x_iload_n dX6_aCar_95 rfl ?_
          have eR : pNu E (cLo i) (cHi X.1 i) q1 = pNu E (nI 1) (nI 12) q1 := by rw [show cLo i = nI 1 from if_pos (by omega), show cHi X.1 i = nI 12 from if_pos (by omega)]
          refine y_V2p hM dX6_aCar_96 kG_X6_X6_number kP_X6_number rfl (by omega) (by decide) (Nat.le_of_ble_eq_true rfl) (c_number hM h2) (fun r3 T3 hp3 => ?_)
          rcases hp3 with ⟨e3, hR3, hr3, hE3⟩ | ⟨hR3, hv3, hr3, h3⟩
          · subst hr3
            refine x_ifN_ne (tgt := 104) dX6_aCar_99 (by decide) (by decide) (fun hc99 => absurd hc99 (by decide)) (fun _ => ?_)
            refine x_ic0 dX6_aCar_102 ?_
            exact x_iret dX6_aCar_103 rfl (by rfl) (tv_pe (xP_e (by rw [pCL_e hc35 (eR.trans hR3)]; rfl) (rC_6 hB) (hE3)))
          · subst hr3
            refine x_ifN_ne (tgt := 104) dX6_aCar_99 (by decide) (by decide) (fun _ => ?_) (fun hc99 => absurd hc99 (by decide))
            refine x_iincN (n := 1) dX6_aCar_104 (by decide) rfl (by decide) rfl ?_
            refine x_goto (tgt := 33) dX6_aCar_107 (by decide) ?_
            rw [pCL_k hc35 (eR.trans hR3)]
            exact ih (i + 1) _ _ _ _ _ _ _ (rC_6 hB) ⟨hX.1, hX.2.1, by rw [tu_sam, hX.2.2.1], hX.2.2.2⟩ h3 (by omega) (by omega)
set_option maxHeartbeats 1000000 in
theorem c_aCar (hM : tw0 + 17 ≤ fc_nx M) {q : tTk} {dep : Nat} (h : rI E T q 0 dep) (hc : q.2.2.1 ≠ nI 0) {X : tXs} (hX : xT T X) (hnc : X.2.1 ≤ 4) : fc_CX g l yX6_aCar cX6_aCar 4 (some .boolean) 10 [.ref (fc_B g + tw0)] (tv g M T w) (tv_p g M w (xP E T q dep (pCr E q X))) := by
  refine fc_enter (by decide) (Nat.le_of_ble_eq_true rfl) rfl ?_
  refine x_aload_n dX6_aCar_0 rfl ?_
  refine v_geti 14 hM dX6_aCar_1 (by decide) rfl q1144 ?_
  refine x_top hX.1 ?_
  refine x_if_ne (tgt := 13) dX6_aCar_4 (by decide) (fun hc4 => ?_) (fun hc4 => ?_)
  · refine x_aload_n dX6_aCar_13 rfl ?_
    refine v_geti 15 hM dX6_aCar_14 (by decide) rfl q1145 ?_
    refine x_top hX.2.1 ?_
    refine x_ic4 dX6_aCar_17 ?_
    refine x_icmpN_ne (tgt := 27) dX6_aCar_18 (by decide) (by omega) (by omega) (fun hc18 => ?_) (fun hc18 => ?_)
    · refine x_aload_n dX6_aCar_27 rfl ?_
      have b1 := nxt_lt h.tk (hc)
      refine y_V0q hM dX6_aCar_28 kG_X6_X6_next0 kP_X6_next0 rfl (by omega) (by decide) (Nat.le_of_ble_eq_true rfl) (c_nextO hM h (hc)) (fun T1 h1 => ?_)
      refine x_ic0 dX6_aCar_31 ?_
      refine x_istore_n dX6_aCar_32 (by decide) rfl ?_
      rw [show pCr E q X = pCf X (pCL E X.1 X.2.1 6 0 (nxt E q) X.2.2.1) from (if_neg hc4).trans (if_neg hc18)]
      exact l_aCar hM (by omega) 6 0 _ T _ _ 0 _ _ rC_refl hX h1 (by omega) (by omega)
    · refine x_aload_n dX6_aCar_21 rfl ?_
      refine x_ic3 dX6_aCar_22 ?_
      refine y_V1p hM dX6_aCar_23 kG_X6_X6_bad kP_X6_bad rfl (by omega) (by decide) (Nat.le_of_ble_eq_true rfl) (c_badO hM h) (fun r1 T1 hp1 => ?_)
      obtain ⟨hr1, hE1⟩ := hp1
      subst hr1
      exact x_iret dX6_aCar_26 rfl (by rfl) (tv_pe (xP_e ((if_neg hc4).trans (if_pos hc18)) rC_refl hE1))
  · refine x_aload_n dX6_aCar_7 rfl ?_
    refine x_ic1 dX6_aCar_8 ?_
    refine y_V1p hM dX6_aCar_9 kG_X6_X6_bad kP_X6_bad rfl (by omega) (by decide) (Nat.le_of_ble_eq_true rfl) (c_badO hM h) (fun r1 T1 hp1 => ?_)
    obtain ⟨hr1, hE1⟩ := hp1
    subst hr1
    exact x_iret dX6_aCar_12 rfl (by rfl) (tv_pe (xP_e (if_pos hc4) rC_refl hE1))
set_option maxHeartbeats 1000000 in
theorem c_skip (hM : tw0 + 17 ≤ fc_nx M) {q : tTk} {dep : Nat} (h : rI E T q 0 dep) (hc : q.2.2.1 ≠ nI 0) {X : tXs} (hX : xT T X) (hnc : X.2.1 ≤ 4) {F : Nat} (hF : X.1 = nI F) (hF2 : F ≤ 80) : fc_CX g l yX6_skip cX6_skip 3 (some .boolean) 10 [.ref (fc_B g + tw0)] (tv g M T w) (tv_p g M w (xP E T q dep (pSk E q X))) := by
  refine fc_enter (by decide) (Nat.le_of_ble_eq_true rfl) rfl ?_
  refine x_aload_n dX6_skip_0 rfl ?_
  refine v_geti 14 hM dX6_skip_1 (by decide) rfl q1144 ?_
  refine x_top hX.1 ?_
  refine x_if_ne (tgt := 13) dX6_skip_4 (by decide) (fun hc4 => ?_) (fun hc4 => ?_)
  · refine x_aload_n dX6_skip_13 rfl ?_
    have b1 := nxt_lt h.tk (hc)
    refine y_V0q hM dX6_skip_14 kG_X6_X6_next0 kP_X6_next0 rfl (by omega) (by decide) (Nat.le_of_ble_eq_true rfl) (c_nextO hM h (hc)) (fun T1 h1 => ?_)
    refine x_aload_n dX6_skip_17 rfl ?_
    refine v_geti 20 hM dX6_skip_18 (by decide) rfl q1150 ?_
    refine x_top h1.val ?_
    refine x_istore_n dX6_skip_21 (by decide) rfl ?_
    refine x_aload_n dX6_skip_22 rfl ?_
    refine x_ic0 dX6_skip_23 ?_
    refine x_aload_n dX6_skip_24 rfl ?_
    refine v_geti 15 hM dX6_skip_25 (by decide) rfl q1145 ?_
    refine x_top (w := nI X.2.1) ((h1.1.2 15 (Or.inr (Or.inr (Or.inl rfl)))).trans hX.2.1) ?_
    refine x_ic1 dX6_skip_28 ?_
    refine x_isub dX6_skip_29 ?_
    refine y_V2p hM dX6_skip_30 kG_X6_X6_number kP_X6_number rfl (by omega) (by decide) (Nat.le_of_ble_eq_true rfl) (c_number hM h1) (fun r2 T2 hp2 => ?_)
    rcases hp2 with ⟨e2, hR2, hr2, hE2⟩ | ⟨hR2, hv2, hr2, h2⟩
    · subst hr2
      refine x_ifN_ne (tgt := 38) dX6_skip_33 (by decide) (by decide) (fun hc33 => absurd hc33 (by decide)) (fun _ => ?_)
      refine x_ic0 dX6_skip_36 ?_
      exact x_iret dX6_skip_37 rfl (by rfl) (tv_pe (xP_e (pSk_e hc4 hR2) rC_refl (hE2)))
    · subst hr2
      refine x_ifN_ne (tgt := 38) dX6_skip_33 (by decide) (by decide) (fun _ => ?_) (fun hc33 => absurd hc33 (by decide))
      refine x_aload_n dX6_skip_38 rfl ?_
      refine v_geti 20 hM dX6_skip_39 (by decide) rfl q1150 ?_
      refine x_top h2.val ?_
      refine x_istore_n dX6_skip_42 (by decide) rfl ?_
      refine x_aload_n dX6_skip_43 rfl ?_
      refine x_ic0 dX6_skip_44 ?_
      refine x_aload_n dX6_skip_45 rfl ?_
      refine v_geti 14 hM dX6_skip_46 (by decide) rfl q1144 ?_
      refine x_top (w := X.1) ((h2.1.2 14 (Or.inr (Or.inl rfl))).trans hX.1) ?_
      refine x_ic1 dX6_skip_49 ?_
      refine x_isub dX6_skip_50 ?_
      refine y_V2p hM dX6_skip_51 kG_X6_X6_number kP_X6_number rfl (by omega) (by decide) (Nat.le_of_ble_eq_true rfl) (c_number hM h2) (fun r3 T3 hp3 => ?_)
      rcases hp3 with ⟨e3, hR3, hr3, hE3⟩ | ⟨hR3, hv3, hr3, h3⟩
      · subst hr3
        refine x_ifN_ne (tgt := 59) dX6_skip_54 (by decide) (by decide) (fun hc54 => absurd hc54 (by decide)) (fun _ => ?_)
        refine x_ic0 dX6_skip_57 ?_
        exact x_iret dX6_skip_58 rfl (by rfl) (tv_pe (xP_e (pSk_f hc4 hR2 hR3) rC_refl (hE3)))
      · subst hr3
        refine x_ifN_ne (tgt := 59) dX6_skip_54 (by decide) (by decide) (fun _ => ?_) (fun hc54 => absurd hc54 (by decide))
        obtain ⟨c, hcn, ec⟩ := (inN_iff (by omega)).mp ((inN_le (by omega)).mp hv2)
        have hv51 := hv3
        rw [hF] at hv51
        obtain ⟨f, hfn, ef⟩ := (inN_iff (by omega)).mp ((inN_le (by omega)).mp hv51)
        refine x_aload_n dX6_skip_59 rfl ?_
        refine v_geta 10 hM dX6_skip_60 (by decide) rfl q1140 ?_
        refine x_bipush (v := nI 80) dX6_skip_63 (by decide) ?_
        refine x_iload_n dX6_skip_65 rfl ?_
        refine x_top ec ?_
        refine x_imulN dX6_skip_66 ?_
        refine x_iload_n dX6_skip_67 rfl ?_
        refine x_top ef ?_
        refine x_iaddN dX6_skip_68 ?_
        refine x_ic1 dX6_skip_69 ?_
        refine v_zast 10 hM dX6_skip_70 (by decide) (by decide) rfl rfl (by show _ < 320; omega) rfl ?_
        refine x_ic1 dX6_skip_71 ?_
        have ez : 80 * (nxt E q).2.2.2.toNatClampNeg + (nxt E (nxt E q)).2.2.2.toNatClampNeg = 80 * c + f := by rw [ec, ef, nI_clamp (by omega), nI_clamp (by omega)]
        exact x_iret dX6_skip_72 rfl (by rfl) (tv_pe (xP_k (pSk_k hc4 hR2 hR3) (rC_10 rC_refl) (show xT (tu T 10 (80 * c + f) (nI 1)) (X.1, X.2.1, X.2.2.1, up X.2.2.2 (80 * (nxt E q).2.2.2.toNatClampNeg + (nxt E (nxt E q)).2.2.2.toNatClampNeg) (nI 1)) from ⟨hX.1, hX.2.1, hX.2.2.1, by rw [tu_sam, ez, hX.2.2.2]⟩) (h3.sta 10 (80 * c + f) (nI 1) (by decide) (by decide) (by decide))))
  · refine x_aload_n dX6_skip_7 rfl ?_
    refine x_ic1 dX6_skip_8 ?_
    refine y_V1p hM dX6_skip_9 kG_X6_X6_bad kP_X6_bad rfl (by omega) (by decide) (Nat.le_of_ble_eq_true rfl) (c_badO hM h) (fun r1 T1 hp1 => ?_)
    obtain ⟨hr1, hE1⟩ := hp1
    subst hr1
    exact x_iret dX6_skip_12 rfl (by rfl) (tv_pe (xP_e (if_pos hc4) rC_refl hE1))
def bindT (R : Except tEr (tTk × tXs)) (f : tTk × tXs → Except tEr (tTk × tXs)) : Except tEr (tTk × tXs) := match R with
  | .error e => .error e
  | .ok x => f x
theorem bindT_e {R : Except tEr (tTk × tXs)} {f : tTk × tXs → Except tEr (tTk × tXs)} {e : tEr} (h : R = .error e) : bindT R f = .error e := by rw [h]; rfl
theorem bindT_k {R : Except tEr (tTk × tXs)} {f : tTk × tXs → Except tEr (tTk × tXs)} {x : tTk × tXs} (h : R = .ok x) : bindT R f = f x := by rw [h]; rfl
def pTM (E : tEn) (q : tTk) (X : tXs) : Except tEr (tTk × tXs) := bindT (if q.2.2.1 = nI 30 then pFl E q X else if q.2.2.1 = nI 31 then pCr E q X else pSk E q X) (fun x => if x.1.2.2.1 = nI 159 then .ok (nxt E x.1, x.2) else .error (nI 1, x.1.1))
abbrev isTl (c : Int32) : Prop := nI 30 ≤ c ∧ c ≤ nI 32
def pTL (E : tEn) (q : tTk) (ln : Nat) (X : tXs) : Except tEr (tTk × tXs) := if isTl q.2.2.1 then (if ln = 40 ∧ ¬ (q.2.2.1 = nI 30 ∧ 0 < X.1) ∧ ¬ (¬ q.2.2.1 = nI 30 ∧ X.1 = 0) then .error (nI 3, q.1) else pTM E q X) else .error (nI 1, q.1)
theorem kG_X6_X6_skip : GoodIn lw_all (wsV RX6 223 RX6 yX6_skip (ws_ yX6_skip cX6_skip 3 (some .boolean))) := lw_V q1373 q1375 qs71 q124 q1376
theorem kP_X6_skip : kPar yX6_skip 0 := by decide +kernel
theorem kG_X6_X6_aCar : GoodIn lw_all (wsV RX6 220 RX6 yX6_aCar (ws_ yX6_aCar cX6_aCar 4 (some .boolean))) := lw_V q1369 q1371 qs70 q124 q1372
theorem kP_X6_aCar : kPar yX6_aCar 0 := by decide +kernel
theorem kG_X6_X6_floors : GoodIn lw_all (wsV RX6 218 RX6 yX6_floors (ws_ yX6_floors cX6_floors 2 (some .boolean))) := lw_V q1361 q1363 qs68 q124 q1364
theorem kP_X6_floors : kPar yX6_floors 0 := by decide +kernel
set_option maxHeartbeats 1000000 in
theorem l_tl67 {n0 s0 : Nat} (hM : tw0 + 17 ≤ fc_nx M) {q : tTk} {dep : Nat} (h : rI E T q 0 dep) (hc : q.2.2.1 ≠ nI 0) {X : tXs} (hX : xT T X) (hnc : X.2.1 ≤ 4) {F : Nat} (hF : X.1 = nI F) (hF2 : F ≤ 80) {o1 : Option Value} : fc_X g l yX6_aTowerLine cX6_aTowerLine 2 (some .boolean) 11 n0 s0 (tv g M T w) 67 [some (.ref (fc_B g + tw0)), o1] [] (tv_p g M w (xP E T q dep (pTM E q X))) := by
  refine x_aload_n dX6_aTowerLine_67 rfl ?_
  refine v_geti 18 hM dX6_aTowerLine_68 (by decide) rfl q1148 ?_
  refine x_top h.tok ?_
  refine x_bipush (v := nI 30) dX6_aTowerLine_71 (by decide) ?_
  refine x_icmp_ne (tgt := 83) dX6_aTowerLine_73 (by decide) (fun hc73 => ?_) (fun hc73 => ?_)
  · refine x_aload_n dX6_aTowerLine_83 rfl ?_
    refine v_geti 18 hM dX6_aTowerLine_84 (by decide) rfl q1148 ?_
    refine x_top h.tok ?_
    refine x_bipush (v := nI 31) dX6_aTowerLine_87 (by decide) ?_
    refine x_icmp_ne (tgt := 99) dX6_aTowerLine_89 (by decide) (fun hc89 => ?_) (fun hc89 => ?_)
    · refine x_aload_n dX6_aTowerLine_99 rfl ?_
      refine y_V0p hM dX6_aTowerLine_100 kG_X6_X6_skip kP_X6_skip rfl (by omega) (by decide) (Nat.le_of_ble_eq_true rfl) (c_skip hM h hc hX hnc hF hF2) (fun r1 T1 hp1 => ?_)
      rcases xP_or hp1 with ⟨e1, hR1, hr1, B, hB, hE1⟩ | ⟨q2, X2, hR1, hr1, B, hB, hX2, h1⟩
      · subst hr1
        refine x_istore_n dX6_aTowerLine_103 (by decide) rfl ?_
        refine x_iload_n dX6_aTowerLine_104 rfl ?_
        refine x_ifN_eq (tgt := 122) dX6_aTowerLine_105 (by decide) (by decide) (fun _ => ?_) (fun hc105 => absurd hc105 (by decide))
        refine x_ic0 dX6_aTowerLine_122 ?_
        exact x_iret dX6_aTowerLine_123 rfl (by rfl) (tv_pe (xP_e (bindT_e ((if_neg hc73).trans ((if_neg hc89).trans hR1))) hB hE1))
      · subst hr1
        refine x_istore_n dX6_aTowerLine_103 (by decide) rfl ?_
        refine x_iload_n dX6_aTowerLine_104 rfl ?_
        refine x_ifN_eq (tgt := 122) dX6_aTowerLine_105 (by decide) (by decide) (fun hc105 => absurd hc105 (by decide)) (fun _ => ?_)
        refine x_aload_n dX6_aTowerLine_108 rfl ?_
        refine x_sipush (v := nI 159) dX6_aTowerLine_109 (by decide) ?_
        refine y_V1p hM dX6_aTowerLine_112 kG_X6_X6_need kP_X6_need rfl (by omega) (by decide) (Nat.le_of_ble_eq_true rfl) (c_need hM h1 (by decide)) (fun r2 T2 hp2 => ?_)
        rcases hp2 with ⟨hR2, hr2, hE2⟩ | ⟨hR2, hr2, h2⟩
        · subst hr2
          refine x_ifN_eq (tgt := 122) dX6_aTowerLine_115 (by decide) (by decide) (fun _ => ?_) (fun hc115 => absurd hc115 (by decide))
          refine x_ic0 dX6_aTowerLine_122 ?_
          exact x_iret dX6_aTowerLine_123 rfl (by rfl) (tv_pe (xP_e ((bindT_k ((if_neg hc73).trans ((if_neg hc89).trans hR1))).trans (if_neg hR2)) hB (hE2)))
        · subst hr2
          refine x_ifN_eq (tgt := 122) dX6_aTowerLine_115 (by decide) (by decide) (fun hc115 => absurd hc115 (by decide)) (fun _ => ?_)
          refine x_ic1 dX6_aTowerLine_118 ?_
          refine x_goto (tgt := 123) dX6_aTowerLine_119 (by decide) ?_
          exact x_iret dX6_aTowerLine_123 rfl (by rfl) (tv_pe (xP_k ((bindT_k ((if_neg hc73).trans ((if_neg hc89).trans hR1))).trans (if_pos hR2)) hB hX2 h2))
    · refine x_aload_n dX6_aTowerLine_92 rfl ?_
      refine y_V0p hM dX6_aTowerLine_93 kG_X6_X6_aCar kP_X6_aCar rfl (by omega) (by decide) (Nat.le_of_ble_eq_true rfl) (c_aCar hM h hc hX hnc) (fun r1 T1 hp1 => ?_)
      rcases xP_or hp1 with ⟨e1, hR1, hr1, B, hB, hE1⟩ | ⟨q2, X2, hR1, hr1, B, hB, hX2, h1⟩
      · subst hr1
        refine x_goto (tgt := 103) dX6_aTowerLine_96 (by decide) ?_
        refine x_istore_n dX6_aTowerLine_103 (by decide) rfl ?_
        refine x_iload_n dX6_aTowerLine_104 rfl ?_
        refine x_ifN_eq (tgt := 122) dX6_aTowerLine_105 (by decide) (by decide) (fun _ => ?_) (fun hc105 => absurd hc105 (by decide))
        refine x_ic0 dX6_aTowerLine_122 ?_
        exact x_iret dX6_aTowerLine_123 rfl (by rfl) (tv_pe (xP_e (bindT_e ((if_neg hc73).trans ((if_pos hc89).trans hR1))) hB hE1))
      · subst hr1
        refine x_goto (tgt := 103) dX6_aTowerLine_96 (by decide) ?_
        refine x_istore_n dX6_aTowerLine_103 (by decide) rfl ?_
        refine x_iload_n dX6_aTowerLine_104 rfl ?_
        refine x_ifN_eq (tgt := 122) dX6_aTowerLine_105 (by decide) (by decide) (fun hc105 => absurd hc105 (by decide)) (fun _ => ?_)
        refine x_aload_n dX6_aTowerLine_108 rfl ?_
        refine x_sipush (v := nI 159) dX6_aTowerLine_109 (by decide) ?_
        refine y_V1p hM dX6_aTowerLine_112 kG_X6_X6_need kP_X6_need rfl (by omega) (by decide) (Nat.le_of_ble_eq_true rfl) (c_need hM h1 (by decide)) (fun r2 T2 hp2 => ?_)
        rcases hp2 with ⟨hR2, hr2, hE2⟩ | ⟨hR2, hr2, h2⟩
        · subst hr2
          refine x_ifN_eq (tgt := 122) dX6_aTowerLine_115 (by decide) (by decide) (fun _ => ?_) (fun hc115 => absurd hc115 (by decide))
          refine x_ic0 dX6_aTowerLine_122 ?_
          exact x_iret dX6_aTowerLine_123 rfl (by rfl) (tv_pe (xP_e ((bindT_k ((if_neg hc73).trans ((if_pos hc89).trans hR1))).trans (if_neg hR2)) hB (hE2)))
        · subst hr2
          refine x_ifN_eq (tgt := 122) dX6_aTowerLine_115 (by decide) (by decide) (fun hc115 => absurd hc115 (by decide)) (fun _ => ?_)
          refine x_ic1 dX6_aTowerLine_118 ?_
          refine x_goto (tgt := 123) dX6_aTowerLine_119 (by decide) ?_
          exact x_iret dX6_aTowerLine_123 rfl (by rfl) (tv_pe (xP_k ((bindT_k ((if_neg hc73).trans ((if_pos hc89).trans hR1))).trans (if_pos hR2)) hB hX2 h2))
  · refine x_aload_n dX6_aTowerLine_76 rfl ?_
    refine y_V0p hM dX6_aTowerLine_77 kG_X6_X6_floors kP_X6_floors rfl (by omega) (by decide) (Nat.le_of_ble_eq_true rfl) (c_floors hM h hc hX) (fun r1 T1 hp1 => ?_)
    rcases xP_or hp1 with ⟨e1, hR1, hr1, B, hB, hE1⟩ | ⟨q2, X2, hR1, hr1, B, hB, hX2, h1⟩
    · subst hr1
      refine x_goto (tgt := 103) dX6_aTowerLine_80 (by decide) ?_
      refine x_istore_n dX6_aTowerLine_103 (by decide) rfl ?_
      refine x_iload_n dX6_aTowerLine_104 rfl ?_
      refine x_ifN_eq (tgt := 122) dX6_aTowerLine_105 (by decide) (by decide) (fun _ => ?_) (fun hc105 => absurd hc105 (by decide))
      refine x_ic0 dX6_aTowerLine_122 ?_
      exact x_iret dX6_aTowerLine_123 rfl (by rfl) (tv_pe (xP_e (bindT_e ((if_pos hc73).trans hR1)) hB hE1))
    · subst hr1
      refine x_goto (tgt := 103) dX6_aTowerLine_80 (by decide) ?_
      refine x_istore_n dX6_aTowerLine_103 (by decide) rfl ?_
      refine x_iload_n dX6_aTowerLine_104 rfl ?_
      refine x_ifN_eq (tgt := 122) dX6_aTowerLine_105 (by decide) (by decide) (fun hc105 => absurd hc105 (by decide)) (fun _ => ?_)
      refine x_aload_n dX6_aTowerLine_108 rfl ?_
      refine x_sipush (v := nI 159) dX6_aTowerLine_109 (by decide) ?_
      refine y_V1p hM dX6_aTowerLine_112 kG_X6_X6_need kP_X6_need rfl (by omega) (by decide) (Nat.le_of_ble_eq_true rfl) (c_need hM h1 (by decide)) (fun r2 T2 hp2 => ?_)
      rcases hp2 with ⟨hR2, hr2, hE2⟩ | ⟨hR2, hr2, h2⟩
      · subst hr2
        refine x_ifN_eq (tgt := 122) dX6_aTowerLine_115 (by decide) (by decide) (fun _ => ?_) (fun hc115 => absurd hc115 (by decide))
        refine x_ic0 dX6_aTowerLine_122 ?_
        exact x_iret dX6_aTowerLine_123 rfl (by rfl) (tv_pe (xP_e ((bindT_k ((if_pos hc73).trans hR1)).trans (if_neg hR2)) hB (hE2)))
      · subst hr2
        refine x_ifN_eq (tgt := 122) dX6_aTowerLine_115 (by decide) (by decide) (fun hc115 => absurd hc115 (by decide)) (fun _ => ?_)
        refine x_ic1 dX6_aTowerLine_118 ?_
        refine x_goto (tgt := 123) dX6_aTowerLine_119 (by decide) ?_
        exact x_iret dX6_aTowerLine_123 rfl (by rfl) (tv_pe (xP_k ((bindT_k ((if_pos hc73).trans hR1)).trans (if_pos hR2)) hB hX2 h2))
set_option maxHeartbeats 1000000 in
theorem c_aTowerLine (hM : tw0 + 17 ≤ fc_nx M) {q : tTk} {dep : Nat} (h : rI E T q 0 dep) {X : tXs} (hX : xT T X) (hnc : X.2.1 ≤ 4) {F : Nat} (hF : X.1 = nI F) (hF2 : F ≤ 80) {ln : Nat} (hl : T 0 12 = nI ln) (hln : ln ≤ 40) : fc_CX g l yX6_aTowerLine cX6_aTowerLine 2 (some .boolean) 11 [.ref (fc_B g + tw0)] (tv g M T w) (tv_p g M w (xP E T q dep (pTL E q ln X))) := by
  refine fc_enter (by decide) (Nat.le_of_ble_eq_true rfl) rfl ?_
  refine x_aload_n dX6_aTowerLine_0 rfl ?_
  refine v_geti 18 hM dX6_aTowerLine_1 (by decide) rfl q1148 ?_
  refine x_top h.tok ?_
  refine x_bipush (v := nI 30) dX6_aTowerLine_4 (by decide) ?_
  refine x_bipush (v := nI 32) dX6_aTowerLine_6 (by decide) ?_
  refine v_S3ie dX6_aTowerLine_8 kG_X6_X6_isIn kP_X6_isIn (by omega) (by decide) (Nat.le_of_ble_eq_true rfl) c_isIn ?_
  refine x_ifB_ne (tgt := 20) dX6_aTowerLine_11 (by decide) (fun hc11 => ?_) (fun hc11 => ?_)
  · refine x_aload_n dX6_aTowerLine_20 rfl ?_
    refine v_geti 12 hM dX6_aTowerLine_21 (by decide) rfl q1142 ?_
    refine x_top hl ?_
    refine x_bipush (v := nI 40) dX6_aTowerLine_24 (by decide) ?_
    refine x_icmpN_ne (tgt := 67) dX6_aTowerLine_26 (by decide) (by omega) (by omega) (fun hc26 => ?_) (fun hc26 => ?_)
    · rw [show pTL E q ln X = pTM E q X from (if_pos hc11).trans (if_neg (fun z => hc26 z.1))]
      exact l_tl67 hM h (fun z => absurd (z ▸ hc11 : isTl (nI 0)) (by decide)) hX hnc hF hF2
    · refine x_aload_n dX6_aTowerLine_29 rfl ?_
      refine v_geti 18 hM dX6_aTowerLine_30 (by decide) rfl q1148 ?_
      refine x_top h.tok ?_
      refine x_bipush (v := nI 30) dX6_aTowerLine_33 (by decide) ?_
      refine x_icmp_ne (tgt := 45) dX6_aTowerLine_35 (by decide) (fun hc35 => ?_) (fun hc35 => ?_)
      · refine x_aload_n dX6_aTowerLine_45 rfl ?_
        refine v_geti 18 hM dX6_aTowerLine_46 (by decide) rfl q1148 ?_
        refine x_top h.tok ?_
        refine x_bipush (v := nI 30) dX6_aTowerLine_49 (by decide) ?_
        refine x_icmp_eq (tgt := 61) dX6_aTowerLine_51 (by decide) (fun hc51 => ?_) (fun hc51 => ?_)
        · exact absurd hc51 hc35
        · refine x_aload_n dX6_aTowerLine_54 rfl ?_
          refine v_geti 14 hM dX6_aTowerLine_55 (by decide) rfl q1144 ?_
          refine x_top hX.1 ?_
          refine x_if_eq (tgt := 67) dX6_aTowerLine_58 (by decide) (fun hc58 => ?_) (fun hc58 => ?_)
          · rw [show pTL E q ln X = pTM E q X from (if_pos hc11).trans (if_neg (fun z => z.2.2 ⟨hc35, hc58⟩))]
            exact l_tl67 hM h (fun z => absurd (z ▸ hc11 : isTl (nI 0)) (by decide)) hX hnc hF hF2
          · refine x_aload_n dX6_aTowerLine_61 rfl ?_
            refine x_ic3 dX6_aTowerLine_62 ?_
            refine y_V1p hM dX6_aTowerLine_63 kG_X6_X6_bad kP_X6_bad rfl (by omega) (by decide) (Nat.le_of_ble_eq_true rfl) (c_badO hM h) (fun r1 T1 hp1 => ?_)
            obtain ⟨hr1, hE1⟩ := hp1
            subst hr1
            exact x_iret dX6_aTowerLine_66 rfl (by rfl) (tv_pe (xP_e ((if_pos hc11).trans (if_pos ⟨hc26, fun z => hc35 z.1, fun z => hc58 z.2⟩)) rC_refl hE1))
      · refine x_aload_n dX6_aTowerLine_38 rfl ?_
        refine v_geti 14 hM dX6_aTowerLine_39 (by decide) rfl q1144 ?_
        refine x_top hX.1 ?_
        refine x_if_gt (tgt := 67) dX6_aTowerLine_42 (by decide) (fun hc42 => ?_) (fun hc42 => ?_)
        · rw [show pTL E q ln X = pTM E q X from (if_pos hc11).trans (if_neg (fun z => z.2.1 ⟨hc35, hc42⟩))]
          exact l_tl67 hM h (fun z => absurd (z ▸ hc11 : isTl (nI 0)) (by decide)) hX hnc hF hF2
        · refine x_aload_n dX6_aTowerLine_45 rfl ?_
          refine v_geti 18 hM dX6_aTowerLine_46 (by decide) rfl q1148 ?_
          refine x_top h.tok ?_
          refine x_bipush (v := nI 30) dX6_aTowerLine_49 (by decide) ?_
          refine x_icmp_eq (tgt := 61) dX6_aTowerLine_51 (by decide) (fun hc51 => ?_) (fun hc51 => ?_)
          · refine x_aload_n dX6_aTowerLine_61 rfl ?_
            refine x_ic3 dX6_aTowerLine_62 ?_
            refine y_V1p hM dX6_aTowerLine_63 kG_X6_X6_bad kP_X6_bad rfl (by omega) (by decide) (Nat.le_of_ble_eq_true rfl) (c_badO hM h) (fun r1 T1 hp1 => ?_)
            obtain ⟨hr1, hE1⟩ := hp1
            subst hr1
            exact x_iret dX6_aTowerLine_66 rfl (by rfl) (tv_pe (xP_e ((if_pos hc11).trans (if_pos ⟨hc26, fun z => hc42 z.2, fun z => z.1 hc35⟩)) rC_refl hE1))
          · exact absurd hc35 hc51
  · refine x_aload_n dX6_aTowerLine_14 rfl ?_
    refine x_ic1 dX6_aTowerLine_15 ?_
    refine y_V1p hM dX6_aTowerLine_16 kG_X6_X6_bad kP_X6_bad rfl (by omega) (by decide) (Nat.le_of_ble_eq_true rfl) (c_badO hM h) (fun r1 T1 hp1 => ?_)
    obtain ⟨hr1, hE1⟩ := hp1
    subst hr1
    exact x_iret dX6_aTowerLine_19 rfl (by rfl) (tv_pe (xP_e (if_neg hc11) rC_refl hE1))
end T84

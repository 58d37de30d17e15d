set_option maxRecDepth 100000
section T34
variable {g : fc_G} {l : Launch} {M : fc_M} {T : tT} {w : Nat → Int32}
def bO : Option Nat → Int32
  | none => -1
  | some b => nI b
def tO (w : Nat → Int32) (c p : Nat) : Option Nat := if w (820 + 8 * p + 4) = nI c then (if w (820 + 8 * p + 3) = nI 2 then some (w (820 + 8 * p + 2)).toNatClampNeg else if w (820 + 8 * p + 3) = nI 1 then some (w (820 + 8 * p + 1)).toNatClampNeg else none) else none
def wy (u : Bool) : Int32 := if u = true then nI 1 else -1
def dd (u : Bool) (a t : Nat) : Nat := if u = true then t - a else a - t
def stB (u : Bool) (a : Nat) (b : Option Nat) : Option Nat → Option Nat
  | none => b
  | some t => if dd u a t = 0 then b else match b with
    | none => some (dd u a t)
    | some q => if dd u a t < q then some (dd u a t) else b
def nb1 (w : Nat → Int32) (c a : Nat) (u : Bool) (n : Nat) : Nat → Nat → Option Nat → Option Nat
  | 0, _, b => b
  | k + 1, i, b => if i < n then nb1 w c a u n k (i + 1) (stB u a b (tO w c i)) else b
def hi (u : Bool) (a f : Nat) : Nat := if u = true then f - a else a + 1
def fN (u : Bool) (a d : Nat) : Nat := if u = true then a + d else a - d
def fI (u : Bool) (a d : Nat) : Int32 := if u = true then nI (a + d) else nI a - nI d
def nu2 (w : Nat → Int32) (c a : Nat) (u : Bool) (f : Nat) (b : Option Nat) : Nat → Nat → Option Nat
  | 0, _ => b
  | k + 1, q => if q < hi u a f then (match b with
      | some z => if q < z then (if w (420 + 80 * c + fN u a q) = nI 1 then some q else nu2 w c a u f b k (q + 1)) else b
      | none => if w (420 + 80 * c + fN u a q) = nI 1 then some q else nu2 w c a u f b k (q + 1)) else b
def nrW (w : Nat → Int32) (c a : Nat) (u : Bool) (f n : Nat) : Option Nat := nu2 w c a u f (nb1 w c a u n (n + 1) 0 none) (f + 1) 1
theorem wy_dd {u : Bool} {a t : Nat} (ha : a < 80) (ht : t < 80) (h : 0 < dd u a t) : (nI t - nI a) * wy u = nI (dd u a t) := by
  cases u with
  | true =>
    simp only [dd, ↓reduceIte] at h ⊢
    rw [wy, if_pos rfl, pk_sub (by omega), pk_mul, Nat.mul_one]
  | false =>
    simp only [dd, Bool.false_eq_true, ↓reduceIte] at h ⊢
    rw [wy, if_neg (by decide), show (nI t - nI a) * (-1) = nI a - nI t by grind, pk_sub (by omega)]
theorem wy_le {u : Bool} {a t : Nat} (ha : a < 80) (ht : t < 80) (h : dd u a t = 0) : (nI t - nI a) * wy u ≤ 0 := by
  rw [Int32.le_iff_toInt_le]
  cases u with
  | true =>
    simp only [dd, ↓reduceIte] at h
    rw [wy, if_pos rfl, show (nI t - nI a) * nI 1 = nI t - nI a by (rw [show nI 1 = 1 from rfl]; grind), pk_sub_toInt (by omega) (by omega)]
    show (t : Int) - a ≤ 0
    omega
  | false =>
    simp only [dd, Bool.false_eq_true, ↓reduceIte] at h
    rw [wy, if_neg (by decide), show (nI t - nI a) * (-1) = nI a - nI t by grind, pk_sub_toInt (by omega) (by omega)]
    show (a : Int) - t ≤ 0
    omega
theorem bO_ne {t : Nat} (h : t < 2 ^ 31) : ¬ nI t = -1 := by
  intro e
  have : (nI t).toInt = (-1 : Int32).toInt := by rw [e]
  rw [nI_toInt h] at this
  have h2 : (-1 : Int32).toInt = -1 := rfl
  omega
theorem dd_lt {u : Bool} {a t : Nat} (ha : a < 80) (ht : t < 80) : dd u a t < 80 := by cases u <;> simp only [dd, ↓reduceIte, Bool.false_eq_true] <;> omega
theorem hi_le {u : Bool} {a f : Nat} (ha : a < 80) (hf : f ≤ 80) : hi u a f ≤ 81 := by cases u <;> simp only [hi, ↓reduceIte, Bool.false_eq_true] <;> omega
theorem stB_lt {u : Bool} {a : Nat} {b t0 : Option Nat} (ha : a < 80) (hb : ∀ q, b = some q → q < 80) (ht : ∀ t, t0 = some t → t < 80) : ∀ q, stB u a b t0 = some q → q < 80 := by
  intro q h
  have hd : ∀ t, t0 = some t → dd u a t < 80 := fun t e => by have := ht t e; cases u <;> simp only [dd, ↓reduceIte, Bool.false_eq_true] <;> omega
  cases t0 with
  | none => exact hb q h
  | some t =>
    have h1 := hd t rfl
    simp only [stB] at h
    split at h
    · exact hb q h
    · cases b with
      | none => simp at h; omega
      | some z =>
        simp only at h
        split at h
        · simp at h; omega
        · exact hb q h
theorem nb1_lt {w : Nat → Int32} {c a : Nat} {u : Bool} {n : Nat} (ha : a < 80) (hT : ∀ p, p < n → tgW w (nI c) p = bO (tO w c p) ∧ ∀ t, tO w c p = some t → t < 80) : ∀ (k i : Nat) (b : Option Nat), (∀ q, b = some q → q < 80) → ∀ q, nb1 w c a u n k i b = some q → q < 80
  | 0, _, _, hb => hb
  | k + 1, i, b, hb => by
    simp only [nb1]
    split
    · rename_i h
      exact nb1_lt ha hT k (i + 1) _ (stB_lt ha hb (hT i h).2)
    · exact hb
theorem fI_n {u : Bool} {a f q : Nat} (ha : a < 80) (hf : f ≤ 80) (h : q < hi u a f) : fI u a q = nI (fN u a q) := by
  cases u with
  | true => rfl
  | false =>
    simp only [hi, Bool.false_eq_true, ↓reduceIte] at h
    simp only [fI, fN, Bool.false_eq_true, ↓reduceIte]
    exact pk_sub (by omega)
theorem fN_lt {u : Bool} {a f q : Nat} (ha : a < f) (h : q < hi u a f) : fN u a q < f := by
  cases u with
  | true => simp only [hi, fN, ↓reduceIte] at h ⊢; omega
  | false => simp only [hi, fN, Bool.false_eq_true, ↓reduceIte] at h ⊢; omega
theorem fI_in {u : Bool} {a f q : Nat} (ha : a < f) (hf : f ≤ 80) (hq : q ≤ hi u a f) : (nI 0 ≤ fI u a q ∧ fI u a q ≤ nI f - nI 1) ↔ q < hi u a f := by
  rw [inN_le (by omega)]
  cases u with
  | true =>
    simp only [hi, fI, ↓reduceIte] at hq ⊢
    unfold inN
    rw [nI_toInt (by omega)]
    omega
  | false =>
    simp only [hi, fI, Bool.false_eq_true, ↓reduceIte] at hq ⊢
    unfold inN
    rw [pk_sub_toInt (by omega) (by omega)]
    omega
theorem fI_d {u : Bool} {a f q : Nat} (ha : a < f) (hf : f ≤ 80) (h : q < hi u a f) : (fI u a q - nI a) * wy u = nI q := by
  cases u with
  | true =>
    simp only [hi, ↓reduceIte] at h
    simp only [fI, wy, ↓reduceIte]
    rw [pk_sub (by omega), pk_mul, Nat.mul_one, Nat.add_sub_cancel_left]
  | false =>
    simp only [fI, wy, Bool.false_eq_true, ↓reduceIte]
    grind
theorem fI_s {u : Bool} {a q : Nat} : fI u a q + wy u = fI u a (q + 1) := by
  cases u with
  | true =>
    simp only [fI, wy, ↓reduceIte]
    rw [nI_add, Nat.add_assoc]
  | false =>
    simp only [fI, wy, Bool.false_eq_true, ↓reduceIte]
    rw [nI_succ]
    grind
theorem fI_1 {u : Bool} {a : Nat} : nI a + wy u = fI u a 1 := by
  cases u with
  | true => simp only [fI, wy, ↓reduceIte]; rw [nI_add]
  | false =>
    simp only [fI, wy, Bool.false_eq_true, ↓reduceIte]
    rw [show nI 1 = 1 from rfl]
    grind
theorem hi_1 {u : Bool} {a f : Nat} (ha : a < f) : 1 ≤ hi u a f ∧ hi u a f < 1 + (f + 1) := by
  cases u with
  | true => simp only [hi, ↓reduceIte]; omega
  | false => simp only [hi, Bool.false_eq_true, ↓reduceIte]; omega
theorem kG_X6_X6_targetOf : GoodIn lw_all (wsV RX6 305 RX6 yX6_targetOf (ws_ yX6_targetOf cX6_targetOf 3 (some .int))) := lw_V q1504 q1506 qs97 q124 q1507
theorem kP_X6_targetOf : kPar yX6_targetOf 2 := by decide +kernel
set_option maxHeartbeats 1000000 in
theorem l_near1 {n0 s0 : Nat} (hM : tw0 + 17 ≤ fc_nx M) {n : Nat} (hn : n ≤ 60) (hw : w 2 = nI n) {c a f : Nat} {u : Bool} (hc : c < 4) (ha : a < f) (hf : f ≤ 80) (hT : ∀ p, p < n → tgW w (nI c) p = bO (tO w c p) ∧ ∀ t, tO w c p = some t → t < 80) {b1 : Option Nat} {Q : Outcome → fc_M → Prop} (hk : ∀ v6 v7 : Option Value, fc_X g l yX6_nearest cX6_nearest 8 (some .int) 5 n0 s0 (tv g M T w) 79 [some (.ref (fc_B g + tw0)), some (.int (nI c)), some (.int (wy u)), some (.int (nI a)), some (.int (bO b1)), some (.int (nI n)), v6, v7] [] (Q)) : ∀ (k i : Nat) (b : Option Nat) (v6 v7 : Option Value), i ≤ n → n < i + k → nb1 w c a u n k i b = b1 → (∀ q, b = some q → q < 80) → fc_X g l yX6_nearest cX6_nearest 8 (some .int) 5 n0 s0 (tv g M T w) 13 [some (.ref (fc_B g + tw0)), some (.int (nI c)), some (.int (wy u)), some (.int (nI a)), some (.int (bO b)), some (.int (nI i)), v6, v7] [] (Q) := by
  intro k
  induction k with
  | zero => intro i b v6 v7 h1 h2 hbb hb; omega
  | succ k ih =>
    intro i b v6 v7 h1 h2 hbb hb
    refine x_iload dX6_nearest_13 rfl ?_
    refine x_aload_n dX6_nearest_15 rfl ?_
    refine v_geta 0 hM dX6_nearest_16 (by decide) rfl q1130 ?_
    refine x_ic2 dX6_nearest_19 ?_
    refine v_wld hM dX6_nearest_20 rfl (by omega) ?_
    refine x_top hw ?_
    refine x_icmpN_ge (tgt := 79) dX6_nearest_21 (by decide) (by omega) (by omega) (fun hc21 => ?_) (fun hc21 => ?_)
    · obtain rfl : i = n := by omega
      rw [show b = b1 by rw [← hbb]; simp only [nb1, if_neg (Nat.lt_irrefl i)]]
      exact hk v6 v7
    · refine x_aload_n dX6_nearest_24 rfl ?_
      refine x_iload_n dX6_nearest_25 rfl ?_
      refine x_iload dX6_nearest_26 rfl ?_
      refine v_V2ie hM dX6_nearest_28 kG_X6_X6_targetOf kP_X6_targetOf rfl (by omega) (by decide) (Nat.le_of_ble_eq_true rfl) (c_targetOf hM rfl (by omega)) ?_
      rcases ht : tO w c i with _ | t
      · refine x_top (w := -1) ((hT i hc21).1.trans (congrArg bO ht)) ?_
        refine x_istore dX6_nearest_31 (by decide) rfl ?_
        refine x_iload dX6_nearest_33 rfl ?_
        refine x_icm1 dX6_nearest_35 ?_
        refine x_icmp_ne (tgt := 43) dX6_nearest_36 (by decide) (fun hc36 => ?_) (fun hc36 => ?_)
        · exact absurd rfl hc36
        · refine x_ic0 dX6_nearest_39 ?_
          refine x_goto (tgt := 49) dX6_nearest_40 (by decide) ?_
          refine x_istore dX6_nearest_49 (by decide) rfl ?_
          refine x_iload dX6_nearest_51 rfl ?_
          refine x_ifN_le (tgt := 73) dX6_nearest_53 (by decide) (by omega) (fun hc53 => ?_) (fun hc53 => ?_)
          · refine x_iincN (n := 1) dX6_nearest_73 (by decide) rfl (by decide) rfl ?_
            refine x_goto (tgt := 13) dX6_nearest_76 (by decide) ?_
            have e : stB u a b (tO w c i) = b := by rw [ht]; first | done | rfl
            have k0 := fun v6 v7 => ih (i + 1) (stB u a b (tO w c i)) v6 v7 (by omega) (by omega) (by rw [← hbb]; simp only [nb1, if_pos hc21]) (stB_lt (by omega) hb (hT i hc21).2)
            rw [e] at k0
            exact k0 _ _
          · exact absurd hc53 (by omega)
      · have htl : t < 80 := (hT i hc21).2 t ht
        refine x_top (w := nI t) ((hT i hc21).1.trans (congrArg bO ht)) ?_
        refine x_istore dX6_nearest_31 (by decide) rfl ?_
        refine x_iload dX6_nearest_33 rfl ?_
        refine x_icm1 dX6_nearest_35 ?_
        refine x_icmp_ne (tgt := 43) dX6_nearest_36 (by decide) (fun hc36 => ?_) (fun hc36 => ?_)
        · refine x_iload dX6_nearest_43 rfl ?_
          refine x_iload_n dX6_nearest_45 rfl ?_
          refine x_isub dX6_nearest_46 ?_
          refine x_iload_n dX6_nearest_47 rfl ?_
          refine x_imul dX6_nearest_48 ?_
          rcases Nat.eq_zero_or_pos (dd u a t) with hz | hz
          · refine x_istore dX6_nearest_49 (by decide) rfl ?_
            refine x_iload dX6_nearest_51 rfl ?_
            refine x_if_le (tgt := 73) dX6_nearest_53 (by decide) (fun hc53 => ?_) (fun hc53 => ?_)
            · refine x_iincN (n := 1) dX6_nearest_73 (by decide) rfl (by decide) rfl ?_
              refine x_goto (tgt := 13) dX6_nearest_76 (by decide) ?_
              have e : stB u a b (tO w c i) = b := by rw [ht]; simp only [stB, if_pos hz]
              have k0 := fun v6 v7 => ih (i + 1) (stB u a b (tO w c i)) v6 v7 (by omega) (by omega) (by rw [← hbb]; simp only [nb1, if_pos hc21]) (stB_lt (by omega) hb (hT i hc21).2)
              rw [e] at k0
              exact k0 _ _
            · exact absurd (wy_le (by omega) htl hz) hc53
          · have hdl : dd u a t < 80 := dd_lt (by omega) htl
            refine x_top (wy_dd (by omega) htl hz) ?_
            refine x_istore dX6_nearest_49 (by decide) rfl ?_
            refine x_iload dX6_nearest_51 rfl ?_
            refine x_ifN_le (tgt := 73) dX6_nearest_53 (by decide) (by omega) (fun hc53 => ?_) (fun hc53 => ?_)
            · exact absurd hc53 (by omega)
            · rcases b with _ | q
              · refine x_iload dX6_nearest_56 rfl ?_
                refine x_icm1 dX6_nearest_58 ?_
                refine x_icmp_eq (tgt := 69) dX6_nearest_59 (by decide) (fun hc59 => ?_) (fun hc59 => ?_)
                · refine x_iload dX6_nearest_69 rfl ?_
                  refine x_istore dX6_nearest_71 (by decide) rfl ?_
                  refine x_iincN (n := 1) dX6_nearest_73 (by decide) rfl (by decide) rfl ?_
                  refine x_goto (tgt := 13) dX6_nearest_76 (by decide) ?_
                  have e : stB u a none (tO w c i) = some (dd u a t) := by rw [ht]; simp only [stB, if_neg (Nat.ne_of_gt hz)]
                  have k0 := fun v6 v7 => ih (i + 1) (stB u a none (tO w c i)) v6 v7 (by omega) (by omega) (by rw [← hbb]; simp only [nb1, if_pos hc21]) (stB_lt (by omega) hb (hT i hc21).2)
                  rw [e] at k0
                  exact k0 _ _
                · exact absurd rfl hc59
              · have hq : q < 80 := hb q rfl
                refine x_iload dX6_nearest_56 rfl ?_
                refine x_icm1 dX6_nearest_58 ?_
                refine x_icmp_eq (tgt := 69) dX6_nearest_59 (by decide) (fun hc59 => ?_) (fun hc59 => ?_)
                · exact absurd hc59 (bO_ne (by omega))
                · refine x_iload dX6_nearest_62 rfl ?_
                  refine x_iload dX6_nearest_64 rfl ?_
                  refine x_icmpN_ge (tgt := 73) dX6_nearest_66 (by decide) (by omega) (by omega) (fun hc66 => ?_) (fun hc66 => ?_)
                  · refine x_iincN (n := 1) dX6_nearest_73 (by decide) rfl (by decide) rfl ?_
                    refine x_goto (tgt := 13) dX6_nearest_76 (by decide) ?_
                    have e : stB u a (some q) (tO w c i) = some q := by rw [ht]; simp only [stB, if_neg (Nat.ne_of_gt hz), if_neg (Nat.not_lt.mpr hc66)]
                    have k0 := fun v6 v7 => ih (i + 1) (stB u a (some q) (tO w c i)) v6 v7 (by omega) (by omega) (by rw [← hbb]; simp only [nb1, if_pos hc21]) (stB_lt (by omega) hb (hT i hc21).2)
                    rw [e] at k0
                    exact k0 _ _
                  · refine x_iload dX6_nearest_69 rfl ?_
                    refine x_istore dX6_nearest_71 (by decide) rfl ?_
                    refine x_iincN (n := 1) dX6_nearest_73 (by decide) rfl (by decide) rfl ?_
                    refine x_goto (tgt := 13) dX6_nearest_76 (by decide) ?_
                    have e : stB u a (some q) (tO w c i) = some (dd u a t) := by rw [ht]; simp only [stB, if_neg (Nat.ne_of_gt hz), if_pos hc66]
                    have k0 := fun v6 v7 => ih (i + 1) (stB u a (some q) (tO w c i)) v6 v7 (by omega) (by omega) (by rw [← hbb]; simp only [nb1, if_pos hc21]) (stB_lt (by omega) hb (hT i hc21).2)
                    rw [e] at k0
                    exact k0 _ _
        · exact absurd hc36 (bO_ne (by omega))
theorem kG_X6_X6_isFloor : GoodIn lw_all (wsV RX6 256 RX6 yX6_isFloor (ws_ yX6_isFloor cX6_isFloor 2 (some .boolean))) := lw_V q1405 q1407 qs77 q124 q1408
theorem kP_X6_isFloor : kPar yX6_isFloor 1 := by decide +kernel
set_option maxHeartbeats 1000000 in
theorem l_near2 {n0 s0 : Nat} (hM : tw0 + 17 ≤ fc_nx M) {n : Nat} (hn : n ≤ 60) (hw : w 2 = nI n) {c a f : Nat} {u : Bool} (hc : c < 4) (ha : a < f) (hf : f ≤ 80) (hT : ∀ p, p < n → tgW w (nI c) p = bO (tO w c p) ∧ ∀ t, tO w c p = some t → t < 80) (hw0 : w 0 = nI f) {b1 : Option Nat} (hb : ∀ q, b1 = some q → q < 80) {v7 : Option Value} : ∀ (k q : Nat) (v6 : Option Value), q ≤ hi u a f → hi u a f < q + k → fc_X g l yX6_nearest cX6_nearest 8 (some .int) 5 n0 s0 (tv g M T w) 84 [some (.ref (fc_B g + tw0)), some (.int (nI c)), some (.int (wy u)), some (.int (nI a)), some (.int (bO b1)), some (.int (fI u a q)), v6, v7] [] (tv_ie g M (bO (nu2 w c a u f b1 k q)) T w) := by
  intro k
  induction k with
  | zero => intro q v6 h1 h2; omega
  | succ k ih =>
    intro q v6 h1 h2
    have hhi : hi u a f ≤ 81 := hi_le (by omega) hf
    refine x_aload_n dX6_nearest_84 rfl ?_
    refine x_iload dX6_nearest_85 rfl ?_
    refine v_V1ie hM dX6_nearest_87 kG_X6_X6_isFloor kP_X6_isFloor rfl (by omega) (by decide) (Nat.le_of_ble_eq_true rfl) (c_isFloor hM) ?_
    refine x_top (bI_congr (q := q < hi u a f) (by rw [hw0]; exact fI_in ha hf h1)) ?_
    refine x_ifB_eq (tgt := 149) dX6_nearest_90 (by decide) (fun hc90 => ?_) (fun hc90 => ?_)
    · refine x_iload dX6_nearest_149 rfl ?_
      refine x_iret dX6_nearest_151 rfl rfl (tv_i2 ?_ rfl rfl)
      simp only [nu2, hc90, and_self, and_true, true_and, and_false, false_and, ↓reduceIte, if_true, if_false, not_true_eq_false, not_false_eq_true, eq_self]
      try rfl
    · refine x_iload dX6_nearest_93 rfl ?_
      have hfn : fN u a q < f := fN_lt ha hc90
      refine x_iload_n dX6_nearest_95 rfl ?_
      refine x_isub dX6_nearest_96 ?_
      refine x_iload_n dX6_nearest_97 rfl ?_
      refine x_imul dX6_nearest_98 ?_
      refine x_top (fI_d ha hf hc90) ?_
      refine x_istore dX6_nearest_99 (by decide) rfl ?_
      rcases b1 with _ | z
      · refine x_iload dX6_nearest_101 rfl ?_
        refine x_icm1 dX6_nearest_103 ?_
        refine x_icmp_eq (tgt := 117) dX6_nearest_104 (by decide) (fun hc104 => ?_) (fun hc104 => ?_)
        · refine x_aload_n dX6_nearest_117 rfl ?_
          refine v_geta 0 hM dX6_nearest_118 (by decide) rfl q1130 ?_
          refine x_sipush (v := nI 420) dX6_nearest_121 (by decide) ?_
          refine x_bipush (v := nI 80) dX6_nearest_124 (by decide) ?_
          refine x_iload_n dX6_nearest_126 rfl ?_
          refine x_imulN dX6_nearest_127 ?_
          refine x_iaddN dX6_nearest_128 ?_
          refine x_iload dX6_nearest_129 rfl ?_
          refine x_top (fI_n (by omega) hf hc90) ?_
          refine x_iaddN dX6_nearest_131 ?_
          refine v_wld hM dX6_nearest_132 rfl (by omega) ?_
          refine x_ic1 dX6_nearest_133 ?_
          refine x_icmp_ne (tgt := 140) dX6_nearest_134 (by decide) (fun hc134 => ?_) (fun hc134 => ?_)
          · refine x_iload dX6_nearest_140 rfl ?_
            refine x_iload_n dX6_nearest_142 rfl ?_
            refine x_iadd dX6_nearest_143 ?_
            refine x_top fI_s ?_
            refine x_istore dX6_nearest_144 (by decide) rfl ?_
            refine x_goto (tgt := 84) dX6_nearest_146 (by decide) ?_
            rw [show nu2 w c a u f none (k + 1) q = nu2 w c a u f none k (q + 1) by simp only [nu2, hc90, hc104, hc134, and_self, and_true, true_and, and_false, false_and, ↓reduceIte, if_true, if_false, not_true_eq_false, not_false_eq_true, eq_self]]
            exact ih (q + 1) _ hc90 (by omega)
          · refine x_iload dX6_nearest_137 rfl ?_
            refine x_iret dX6_nearest_139 rfl rfl (tv_i2 ?_ rfl rfl)
            simp only [nu2, hc90, hc104, hc134, and_self, and_true, true_and, and_false, false_and, ↓reduceIte, if_true, if_false, not_true_eq_false, not_false_eq_true, eq_self]
            try rfl
        · exact absurd rfl hc104
      · have hz : z < 80 := hb z rfl
        refine x_iload dX6_nearest_101 rfl ?_
        refine x_icm1 dX6_nearest_103 ?_
        refine x_icmp_eq (tgt := 117) dX6_nearest_104 (by decide) (fun hc104 => ?_) (fun hc104 => ?_)
        · exact absurd hc104 (bO_ne (by omega))
        · refine x_iload dX6_nearest_107 rfl ?_
          refine x_iload dX6_nearest_109 rfl ?_
          refine x_icmpN_lt (tgt := 117) dX6_nearest_111 (by decide) (by omega) (by omega) (fun hc111 => ?_) (fun hc111 => ?_)
          · refine x_aload_n dX6_nearest_117 rfl ?_
            refine v_geta 0 hM dX6_nearest_118 (by decide) rfl q1130 ?_
            refine x_sipush (v := nI 420) dX6_nearest_121 (by decide) ?_
            refine x_bipush (v := nI 80) dX6_nearest_124 (by decide) ?_
            refine x_iload_n dX6_nearest_126 rfl ?_
            refine x_imulN dX6_nearest_127 ?_
            refine x_iaddN dX6_nearest_128 ?_
            refine x_iload dX6_nearest_129 rfl ?_
            refine x_top (fI_n (by omega) hf hc90) ?_
            refine x_iaddN dX6_nearest_131 ?_
            refine v_wld hM dX6_nearest_132 rfl (by omega) ?_
            refine x_ic1 dX6_nearest_133 ?_
            refine x_icmp_ne (tgt := 140) dX6_nearest_134 (by decide) (fun hc134 => ?_) (fun hc134 => ?_)
            · refine x_iload dX6_nearest_140 rfl ?_
              refine x_iload_n dX6_nearest_142 rfl ?_
              refine x_iadd dX6_nearest_143 ?_
              refine x_top fI_s ?_
              refine x_istore dX6_nearest_144 (by decide) rfl ?_
              refine x_goto (tgt := 84) dX6_nearest_146 (by decide) ?_
              rw [show nu2 w c a u f (some z) (k + 1) q = nu2 w c a u f (some z) k (q + 1) by simp only [nu2, hc90, hc104, hc111, hc134, and_self, and_true, true_and, and_false, false_and, ↓reduceIte, if_true, if_false, not_true_eq_false, not_false_eq_true, eq_self]]
              exact ih (q + 1) _ hc90 (by omega)
            · refine x_iload dX6_nearest_137 rfl ?_
              refine x_iret dX6_nearest_139 rfl rfl (tv_i2 ?_ rfl rfl)
              simp only [nu2, hc90, hc104, hc111, hc134, and_self, and_true, true_and, and_false, false_and, ↓reduceIte, if_true, if_false, not_true_eq_false, not_false_eq_true, eq_self]
              try rfl
          · refine x_iload dX6_nearest_114 rfl ?_
            refine x_iret dX6_nearest_116 rfl rfl (tv_i2 ?_ rfl rfl)
            simp only [nu2, hc90, hc104, Nat.not_lt.mpr hc111, and_self, and_true, true_and, and_false, false_and, ↓reduceIte, if_true, if_false, not_true_eq_false, not_false_eq_true, eq_self]
            try rfl
set_option maxHeartbeats 1000000 in
theorem b_near79 {n0 s0 : Nat} (hM : tw0 + 17 ≤ fc_nx M) {n : Nat} (hn : n ≤ 60) (hw : w 2 = nI n) {c a f : Nat} {u : Bool} (hc : c < 4) (ha : a < f) (hf : f ≤ 80) (hT : ∀ p, p < n → tgW w (nI c) p = bO (tO w c p) ∧ ∀ t, tO w c p = some t → t < 80) (hw0 : w 0 = nI f) {b1 : Option Nat} (hb : ∀ q, b1 = some q → q < 80) {v6 v7 : Option Value} : fc_X g l yX6_nearest cX6_nearest 8 (some .int) 5 n0 s0 (tv g M T w) 79 [some (.ref (fc_B g + tw0)), some (.int (nI c)), some (.int (wy u)), some (.int (nI a)), some (.int (bO b1)), some (.int (nI n)), v6, v7] [] (tv_ie g M (bO (nu2 w c a u f b1 (f + 1) 1)) T w) := by
  refine x_iload_n dX6_nearest_79 rfl ?_
  refine x_iload_n dX6_nearest_80 rfl ?_
  refine x_iadd dX6_nearest_81 ?_
  refine x_top fI_1 ?_
  refine x_istore dX6_nearest_82 (by decide) rfl ?_
  exact l_near2 hM hn hw hc ha hf hT hw0 hb (f + 1) 1 _ (hi_1 ha).1 (hi_1 ha).2
set_option maxHeartbeats 1000000 in
theorem c_nearest (hM : tw0 + 17 ≤ fc_nx M) {n : Nat} (hn : n ≤ 60) (hw : w 2 = nI n) {c a f : Nat} {u : Bool} (hc : c < 4) (ha : a < f) (hf : f ≤ 80) (hT : ∀ p, p < n → tgW w (nI c) p = bO (tO w c p) ∧ ∀ t, tO w c p = some t → t < 80) (hw0 : w 0 = nI f) (hfl : w (10 + 20 * c + 0) = nI a) : fc_CX g l yX6_nearest cX6_nearest 8 (some .int) 5 [.ref (fc_B g + tw0), .int (nI c), .int (wy u)] (tv g M T w) (tv_ie g M (bO (nrW w c a u f n)) T w) := by
  refine fc_enter (by decide) (Nat.le_of_ble_eq_true rfl) rfl ?_
  refine x_aload_n dX6_nearest_0 rfl ?_
  refine x_iload_n dX6_nearest_1 rfl ?_
  refine x_ic0 dX6_nearest_2 ?_
  refine v_V2ie hM dX6_nearest_3 kG_X6_X6_ofCar kP_X6_ofCar rfl (by omega) (by decide) (Nat.le_of_ble_eq_true rfl) (c_ofCar hM rfl rfl (by omega)) ?_
  refine x_top hfl ?_
  refine x_istore_n dX6_nearest_6 (by decide) rfl ?_
  refine x_icm1 dX6_nearest_7 ?_
  refine x_istore dX6_nearest_8 (by decide) rfl ?_
  refine x_ic0 dX6_nearest_10 ?_
  refine x_istore dX6_nearest_11 (by decide) rfl ?_
  exact l_near1 hM hn hw hc ha hf hT (b1 := nb1 w c a u n (n + 1) 0 none) (fun v6 v7 => b_near79 hM hn hw hc ha hf hT hw0 (nb1_lt (by omega) hT (n + 1) 0 none (fun q e => by cases e))) (n + 1) 0 none _ _ (by omega) (by omega) rfl (fun q e => by cases e)
/-- the way that car c takes up: fh the first one here (or -1), u, dn the nearest targets up and down -/
def nwW (w : Nat → Int32) (c : Nat) (fh : Int32) (u dn : Option Nat) : Int32 := if fh = -1 then (match u, dn with
    | none, none => if w (10 + 20 * c + 5) = -1 then nI 0 else if w (10 + 20 * c + 5) = w (10 + 20 * c + 0) then nI 0 else if w (10 + 20 * c + 0) < w (10 + 20 * c + 5) then nI 1 else -1
    | some _, none => nI 1
    | none, some _ => -1
    | some x, some y => if y < x then -1 else nI 1) else wayW w fh.toNatClampNeg
theorem fhW_or {w : Nat → Int32} {c n : Nat} : ∀ (k i : Nat), fhW w c n k i = -1 ∨ ∃ j, j < n ∧ fhW w c n k i = nI j
  | 0, _ => Or.inl rfl
  | k + 1, i => by
    simp only [fhW]
    split
    · split
      · exact Or.inr ⟨i, by assumption, rfl⟩
      · exact fhW_or k (i + 1)
    · exact Or.inl rfl
theorem nrW_lt {w : Nat → Int32} {c a f n : Nat} {u : Bool} (ha : a < 80) (hf : f ≤ 80) (hT : ∀ p, p < n → tgW w (nI c) p = bO (tO w c p) ∧ ∀ t, tO w c p = some t → t < 80) : ∀ q, nrW w c a u f n = some q → q < 81 := by
  have h0 := nb1_lt (u := u) ha hT (n + 1) 0 none (fun q e => by cases e)
  have key : ∀ (b : Option Nat), (∀ q, b = some q → q < 80) → ∀ (k q0 : Nat), ∀ q, nu2 w c a u f b k q0 = some q → q < 81 := by
    intro b hb k
    induction k with
    | zero => intro q0 q h; have := hb q h; omega
    | succ k ih =>
      intro q0 q h
      have hh := hi_le (u := u) ha hf
      simp only [nu2] at h
      split at h
      · rename_i hlt
        cases b with
        | none =>
          simp only at h
          split at h
          · simp at h; omega
          · exact ih _ _ h
        | some z =>
          simp only at h
          split at h
          · split at h
            · simp at h; omega
            · exact ih _ _ h
          · have := hb q h; omega
      · have := hb q h; omega
  exact key _ h0 _ _
theorem kG_X6_X6_firstHere : GoodIn lw_all (wsV RX6 308 RX6 yX6_firstHere (ws_ yX6_firstHere cX6_firstHere 3 (some .int))) := lw_V q1512 q1514 qs99 q124 q1515
theorem kP_X6_firstHere : kPar yX6_firstHere 1 := by decide +kernel
theorem kG_X6_X6_nearest : GoodIn lw_all (wsV RX6 311 RX6 yX6_nearest (ws_ yX6_nearest cX6_nearest 8 (some .int))) := lw_V q1500 q1502 qs96 q124 q1503
theorem kP_X6_nearest : kPar yX6_nearest 2 := by decide +kernel
theorem kG_X6_X6_wayOf : GoodIn lw_all (wsV RX6 277 RX6 yX6_wayOf (ws_ yX6_wayOf cX6_wayOf 2 (some .int))) := lw_V q1448 q1450 qs85 q124 q1451
theorem kP_X6_wayOf : kPar yX6_wayOf 1 := by decide +kernel
set_option maxHeartbeats 1000000 in
theorem c_newWay (hM : tw0 + 17 ≤ fc_nx M) {n : Nat} (hn : n ≤ 60) (hw : w 2 = nI n) {c a f : Nat} (hc : c < 4) (ha : a < f) (hf : f ≤ 80) (hT : ∀ p, p < n → tgW w (nI c) p = bO (tO w c p) ∧ ∀ t, tO w c p = some t → t < 80) (hw0 : w 0 = nI f) (hfl : w (10 + 20 * c + 0) = nI a) : fc_CX g l yX6_newWay cX6_newWay 6 (some .int) 6 [.ref (fc_B g + tw0), .int (nI c)] (tv g M T w) (tv_ie g M (nwW w c (fhW w c n (n + 1) 0) (nrW w c a true f n) (nrW w c a false f n)) T w) := by
  refine fc_enter (by decide) (Nat.le_of_ble_eq_true rfl) rfl ?_
  refine x_aload_n dX6_newWay_0 rfl ?_
  refine x_iload_n dX6_newWay_1 rfl ?_
  refine v_V1ie hM dX6_newWay_2 kG_X6_X6_firstHere kP_X6_firstHere rfl (by omega) (by decide) (Nat.le_of_ble_eq_true rfl) (c_firstHere hM hn hw (by omega)) ?_
  generalize hfh : fhW w c n (n + 1) 0 = fh
  rcases (hfh ▸ fhW_or (n + 1) 0 : fh = -1 ∨ ∃ j, j < n ∧ fh = nI j) with rfl | ⟨j, hj, rfl⟩
  · refine x_istore_n dX6_newWay_5 (by decide) rfl ?_
    refine x_iload_n dX6_newWay_6 rfl ?_
    refine x_icm1 dX6_newWay_7 ?_
    refine x_icmp_eq (tgt := 17) dX6_newWay_8 (by decide) (fun hc8 => ?_) (fun hc8 => ?_)
    · refine x_aload_n dX6_newWay_17 rfl ?_
      refine x_iload_n dX6_newWay_18 rfl ?_
      refine x_ic1 dX6_newWay_19 ?_
      refine v_V2ie hM dX6_newWay_20 kG_X6_X6_nearest kP_X6_nearest rfl (by omega) (by decide) (Nat.le_of_ble_eq_true rfl) (c_nearest (u := true) hM hn hw hc ha hf hT hw0 hfl) ?_
      have hul := nrW_lt (a := a) (u := true) (by omega) hf hT
      generalize nrW w c a true f n = un at hul
      rcases un with _ | un
      · refine x_istore_n dX6_newWay_23 (by decide) rfl ?_
        refine x_aload_n dX6_newWay_24 rfl ?_
        refine x_iload_n dX6_newWay_25 rfl ?_
        refine x_icm1 dX6_newWay_26 ?_
        refine v_V2ie hM dX6_newWay_27 kG_X6_X6_nearest kP_X6_nearest rfl (by omega) (by decide) (Nat.le_of_ble_eq_true rfl) (c_nearest (u := false) hM hn hw hc ha hf hT hw0 hfl) ?_
        have hdl := nrW_lt (a := a) (u := false) (by omega) hf hT
        generalize nrW w c a false f n = dn at hdl
        rcases dn with _ | dn
        · refine x_istore dX6_newWay_30 (by decide) rfl ?_
          refine x_iload_n dX6_newWay_32 rfl ?_
          refine x_icm1 dX6_newWay_33 ?_
          refine x_icmp_ne (tgt := 43) dX6_newWay_34 (by decide) (fun hc34 => ?_) (fun hc34 => ?_)
          · exact absurd rfl hc34
          · refine x_iload dX6_newWay_37 rfl ?_
            refine x_icm1 dX6_newWay_39 ?_
            refine x_icmp_eq (tgt := 66) dX6_newWay_40 (by decide) (fun hc40 => ?_) (fun hc40 => ?_)
            · refine x_aload_n dX6_newWay_66 rfl ?_
              refine x_iload_n dX6_newWay_67 rfl ?_
              refine x_ic5 dX6_newWay_68 ?_
              refine v_V2ie hM dX6_newWay_69 kG_X6_X6_ofCar kP_X6_ofCar rfl (by omega) (by decide) (Nat.le_of_ble_eq_true rfl) (c_ofCar hM rfl rfl (by omega)) ?_
              refine x_istore dX6_newWay_72 (by decide) rfl ?_
              refine x_iload dX6_newWay_74 rfl ?_
              refine x_icm1 dX6_newWay_76 ?_
              refine x_icmp_eq (tgt := 91) dX6_newWay_77 (by decide) (fun hc77 => ?_) (fun hc77 => ?_)
              · refine x_ic0 dX6_newWay_91 ?_
                refine x_goto (tgt := 111) dX6_newWay_92 (by decide) ?_
                refine x_iret dX6_newWay_111 rfl rfl (tv_i2 ?_ rfl rfl)
                simp only [nwW, hc8, hc34, hc40, hc77, and_self, and_true, true_and, and_false, false_and, ↓reduceIte, if_true, if_false, not_true_eq_false, not_false_eq_true, eq_self]
                try first | rfl | (split <;> rfl)
              · refine x_iload dX6_newWay_80 rfl ?_
                refine x_aload_n dX6_newWay_82 rfl ?_
                refine x_iload_n dX6_newWay_83 rfl ?_
                refine x_ic0 dX6_newWay_84 ?_
                refine v_V2ie hM dX6_newWay_85 kG_X6_X6_ofCar kP_X6_ofCar rfl (by omega) (by decide) (Nat.le_of_ble_eq_true rfl) (c_ofCar hM rfl rfl (by omega)) ?_
                refine x_icmp_ne (tgt := 95) dX6_newWay_88 (by decide) (fun hc88 => ?_) (fun hc88 => ?_)
                · refine x_iload dX6_newWay_95 rfl ?_
                  refine x_aload_n dX6_newWay_97 rfl ?_
                  refine x_iload_n dX6_newWay_98 rfl ?_
                  refine x_ic0 dX6_newWay_99 ?_
                  refine v_V2ie hM dX6_newWay_100 kG_X6_X6_ofCar kP_X6_ofCar rfl (by omega) (by decide) (Nat.le_of_ble_eq_true rfl) (c_ofCar hM rfl rfl (by omega)) ?_
                  refine x_icmp_le (tgt := 110) dX6_newWay_103 (by decide) (fun hc103 => ?_) (fun hc103 => ?_)
                  · refine x_icm1 dX6_newWay_110 ?_
                    refine x_iret dX6_newWay_111 rfl rfl (tv_i2 ?_ rfl rfl)
                    simp only [nwW, hc8, hc34, hc40, hc77, hc88, Int32.not_lt.mpr hc103, and_self, and_true, true_and, and_false, false_and, ↓reduceIte, if_true, if_false, not_true_eq_false, not_false_eq_true, eq_self]
                    try first | rfl | (split <;> rfl)
                  · refine x_ic1 dX6_newWay_106 ?_
                    refine x_goto (tgt := 111) dX6_newWay_107 (by decide) ?_
                    refine x_iret dX6_newWay_111 rfl rfl (tv_i2 ?_ rfl rfl)
                    simp only [nwW, hc8, hc34, hc40, hc77, hc88, Int32.not_le.mp hc103, and_self, and_true, true_and, and_false, false_and, ↓reduceIte, if_true, if_false, not_true_eq_false, not_false_eq_true, eq_self]
                    try first | rfl | (split <;> rfl)
                · refine x_ic0 dX6_newWay_91 ?_
                  refine x_goto (tgt := 111) dX6_newWay_92 (by decide) ?_
                  refine x_iret dX6_newWay_111 rfl rfl (tv_i2 ?_ rfl rfl)
                  simp only [nwW, hc8, hc34, hc40, hc77, hc88, and_self, and_true, true_and, and_false, false_and, ↓reduceIte, if_true, if_false, not_true_eq_false, not_false_eq_true, eq_self]
                  try first | rfl | (split <;> rfl)
            · exact absurd rfl hc40
        · have hdn := hdl dn rfl
          refine x_istore dX6_newWay_30 (by decide) rfl ?_
          refine x_iload_n dX6_newWay_32 rfl ?_
          refine x_icm1 dX6_newWay_33 ?_
          refine x_icmp_ne (tgt := 43) dX6_newWay_34 (by decide) (fun hc34 => ?_) (fun hc34 => ?_)
          · exact absurd rfl hc34
          · refine x_iload dX6_newWay_37 rfl ?_
            refine x_icm1 dX6_newWay_39 ?_
            refine x_icmp_eq (tgt := 66) dX6_newWay_40 (by decide) (fun hc40 => ?_) (fun hc40 => ?_)
            · exact absurd hc40 (bO_ne (by omega))
            · refine x_iload dX6_newWay_43 rfl ?_
              refine x_icm1 dX6_newWay_45 ?_
              refine x_icmp_eq (tgt := 60) dX6_newWay_46 (by decide) (fun hc46 => ?_) (fun hc46 => ?_)
              · exact absurd hc46 (bO_ne (by omega))
              · refine x_iload_n dX6_newWay_49 rfl ?_
                refine x_icm1 dX6_newWay_50 ?_
                refine x_icmp_eq (tgt := 64) dX6_newWay_51 (by decide) (fun hc51 => ?_) (fun hc51 => ?_)
                · refine x_icm1 dX6_newWay_64 ?_
                  refine x_iret dX6_newWay_65 rfl rfl (tv_i2 ?_ rfl rfl)
                  simp only [nwW, hc8, hc34, hc40, hc46, hc51, and_self, and_true, true_and, and_false, false_and, ↓reduceIte, if_true, if_false, not_true_eq_false, not_false_eq_true, eq_self]
                  try first | rfl | (split <;> rfl)
                · exact absurd rfl hc51
      · have hun := hul un rfl
        refine x_istore_n dX6_newWay_23 (by decide) rfl ?_
        refine x_aload_n dX6_newWay_24 rfl ?_
        refine x_iload_n dX6_newWay_25 rfl ?_
        refine x_icm1 dX6_newWay_26 ?_
        refine v_V2ie hM dX6_newWay_27 kG_X6_X6_nearest kP_X6_nearest rfl (by omega) (by decide) (Nat.le_of_ble_eq_true rfl) (c_nearest (u := false) hM hn hw hc ha hf hT hw0 hfl) ?_
        have hdl := nrW_lt (a := a) (u := false) (by omega) hf hT
        generalize nrW w c a false f n = dn at hdl
        rcases dn with _ | dn
        · refine x_istore dX6_newWay_30 (by decide) rfl ?_
          refine x_iload_n dX6_newWay_32 rfl ?_
          refine x_icm1 dX6_newWay_33 ?_
          refine x_icmp_ne (tgt := 43) dX6_newWay_34 (by decide) (fun hc34 => ?_) (fun hc34 => ?_)
          · refine x_iload dX6_newWay_43 rfl ?_
            refine x_icm1 dX6_newWay_45 ?_
            refine x_icmp_eq (tgt := 60) dX6_newWay_46 (by decide) (fun hc46 => ?_) (fun hc46 => ?_)
            · refine x_ic1 dX6_newWay_60 ?_
              refine x_goto (tgt := 65) dX6_newWay_61 (by decide) ?_
              refine x_iret dX6_newWay_65 rfl rfl (tv_i2 ?_ rfl rfl)
              simp only [nwW, hc8, hc34, hc46, and_self, and_true, true_and, and_false, false_and, ↓reduceIte, if_true, if_false, not_true_eq_false, not_false_eq_true, eq_self]
              try first | rfl | (split <;> rfl)
            · exact absurd rfl hc46
          · exact absurd hc34 (bO_ne (by omega))
        · have hdn := hdl dn rfl
          refine x_istore dX6_newWay_30 (by decide) rfl ?_
          refine x_iload_n dX6_newWay_32 rfl ?_
          refine x_icm1 dX6_newWay_33 ?_
          refine x_icmp_ne (tgt := 43) dX6_newWay_34 (by decide) (fun hc34 => ?_) (fun hc34 => ?_)
          · refine x_iload dX6_newWay_43 rfl ?_
            refine x_icm1 dX6_newWay_45 ?_
            refine x_icmp_eq (tgt := 60) dX6_newWay_46 (by decide) (fun hc46 => ?_) (fun hc46 => ?_)
            · exact absurd hc46 (bO_ne (by omega))
            · refine x_iload_n dX6_newWay_49 rfl ?_
              refine x_icm1 dX6_newWay_50 ?_
              refine x_icmp_eq (tgt := 64) dX6_newWay_51 (by decide) (fun hc51 => ?_) (fun hc51 => ?_)
              · exact absurd hc51 (bO_ne (by omega))
              · refine x_iload_n dX6_newWay_54 rfl ?_
                refine x_iload dX6_newWay_55 rfl ?_
                refine x_icmpN_gt (tgt := 64) dX6_newWay_57 (by decide) (by omega) (by omega) (fun hc57 => ?_) (fun hc57 => ?_)
                · refine x_icm1 dX6_newWay_64 ?_
                  refine x_iret dX6_newWay_65 rfl rfl (tv_i2 ?_ rfl rfl)
                  simp only [nwW, hc8, hc34, hc46, hc51, hc57, and_self, and_true, true_and, and_false, false_and, ↓reduceIte, if_true, if_false, not_true_eq_false, not_false_eq_true, eq_self]
                  try first | rfl | (split <;> rfl)
                · refine x_ic1 dX6_newWay_60 ?_
                  refine x_goto (tgt := 65) dX6_newWay_61 (by decide) ?_
                  refine x_iret dX6_newWay_65 rfl rfl (tv_i2 ?_ rfl rfl)
                  simp only [nwW, hc8, hc34, hc46, hc51, Nat.not_lt.mpr hc57, and_self, and_true, true_and, and_false, false_and, ↓reduceIte, if_true, if_false, not_true_eq_false, not_false_eq_true, eq_self]
                  try first | rfl | (split <;> rfl)
          · exact absurd hc34 (bO_ne (by omega))
    · exact absurd rfl hc8
  · have hcl : (nI j).toNatClampNeg = j := nI_clamp (by omega)
    refine x_istore_n dX6_newWay_5 (by decide) rfl ?_
    refine x_iload_n dX6_newWay_6 rfl ?_
    refine x_icm1 dX6_newWay_7 ?_
    refine x_icmp_eq (tgt := 17) dX6_newWay_8 (by decide) (fun hc8 => ?_) (fun hc8 => ?_)
    · exact absurd hc8 (bO_ne (by omega))
    · refine x_aload_n dX6_newWay_11 rfl ?_
      refine x_iload_n dX6_newWay_12 rfl ?_
      refine v_V1ie hM dX6_newWay_13 kG_X6_X6_wayOf kP_X6_wayOf rfl (by omega) (by decide) (Nat.le_of_ble_eq_true rfl) (c_wayOf hM rfl (by omega)) ?_
      refine x_iret dX6_newWay_16 rfl rfl (tv_i2 ?_ rfl rfl)
      simp only [nwW, hc8, and_self, and_true, true_and, and_false, false_and, ↓reduceIte, if_true, if_false, not_true_eq_false, not_false_eq_true, eq_self]
      rw [hcl]
      rfl
end T34

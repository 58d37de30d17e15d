set_option maxRecDepth 100000
section T99ZV
variable {g : fc_G} {l : Launch} {M : fc_M} {S S0 : tT} {U : tU} {w : Nat → Int32} {π f nC n : Nat} {A : Nat → Int32}
theorem k_abr {y : MethodName} {cc : ByteArray} {nL : Nat} {ret : Option FieldType} {d n0 s0 : Nat} {pc : Nat} {L : List (Option Value)} {st : List Value} {Q : Outcome → fc_M → Prop} {j : Nat} (hF : LF g M) (hAb : ∀ j, j < 4 → fc_ct M 235 j = .ref (fc_B g + (236 + j))) (hd : decode cc pc = .ok (.aaload, 1)) (hj : j < 4) (kk : fc_X g l y cc nL ret d n0 s0 (cR M S U 32 w) (pc + 1) L (.ref (fc_B g + (236 + j)) :: st) Q) : fc_X g l y cc nL ret d n0 s0 (cR M S U 32 w) pc L (.int (nI j) :: .ref (fc_B g + 235) :: st) Q :=
  x_aald hd (show 235 < fc_nx M by have := hF.1; omega) (hF.2.2 235 _ rfl) rfl (by decide) hj ((cl_r (by rw [hF.2.2 235 _ rfl]; rfl)).trans (hAb j hj)) kk
def mV (v : Int32) : Int32 := if v = -1 then 2147483647 else v
theorem mV_min {s v : Int32} (h : ∃ N, N ≤ 10000000 ∧ s = nI N) : (if s < mV v then s else mV v) = mV (if v = -1 then s else if s < v then s else v) := by
  obtain ⟨N, hN, rfl⟩ := h
  have h1 : ¬ nI N = -1 := bO_ne (by omega)
  by_cases c : v = -1
  · rw [if_pos c, mV, if_pos c, mV, if_neg h1, if_pos (show nI N < (2147483647 : Int32) from nI_lt (b := 2147483647) (by omega) (by decide))]
  · rw [if_neg c, mV, if_neg c]
    by_cases c2 : nI N < v
    · rw [if_pos c2, mV, if_neg h1]
    · rw [if_neg c2, mV, if_neg c]
def IA (S : tT) (f : Nat) (A : Nat → Int32) (j p : Nat) : Prop := (∀ t a, t < j → a + t < f → S (236 + t) a = A (80 * t + a)) ∧ (∀ a, a < p → S (236 + j) a = A (80 * j + a))
theorem IA_tu {j p : Nat} {x : Int32} (h : IA S f A j p) (hx : x = A (80 * j + p)) : IA (tu S (236 + j) p x) f A j (p + 1) := by
  refine ⟨fun t a ht ha => (if_neg (fun z => by omega)).trans (h.1 t a ht ha), fun a ha => ?_⟩
  by_cases c : a = p
  · subst c; exact (if_pos ⟨rfl, rfl⟩).trans hx
  · exact (if_neg (fun z => c z.2)).trans (h.2 a (by omega))
theorem IA_next {j p : Nat} (h : IA S f A j p) (hp : f ≤ p + j) : IA S f A (j + 1) 0 := by
  refine ⟨fun t a ht ha => ?_, fun a ha => absurd ha (by omega)⟩
  by_cases c : t = j
  · subst c; exact h.2 a (by omega)
  · exact h.1 t a (by omega) ha
theorem laS_off {m a : Nat} : ∀ (k i : Nat) (v : Int32), (∀ b, i ≤ b → b < f → A (80 * (m - 1) + b) = -1) → laS w f m a A k i v = v
  | 0, _, _, _ => rfl
  | k + 1, i, v, h => by
    by_cases c : i < f
    · rw [laS, if_pos c, if_pos (h i (Nat.le_refl _) c)]
      exact laS_off k (i + 1) v (fun b h1 h2 => h b (by omega) h2)
    · rw [laS, if_neg c]
theorem AI_out (h : AI w f n A) : ∀ (t a : Nat), t < n → a < f → f ≤ a + t → A (80 * t + a) = -1
  | 0, a, _, h2, h3 => by omega
  | t + 1, a, h1, h2, h3 => by
    rw [(h (t + 1) a h1 h2).2.2 (by omega)]
    refine laS_off _ _ _ (fun b b1 b2 => ?_)
    rw [Nat.add_sub_cancel]
    exact AI_out h t b (by omega) b2 (by omega)
theorem bwL_m1 {a k i : Nat} {v : Int32} (hi : i < f) (hf : f ≤ 80) : bwL w f a (-1) (k + 1) i v = bwL w f a (-1) k (i + 1) (v + w (740 + i) * nI (i - a)) := by
  rw [bwL, if_pos hi, if_neg (bO_ne (by omega)), bwD, if_pos rfl]
theorem bwL_m0 {a k i : Nat} {v : Int32} (hi : ¬ i < f) : bwL w f a (-1) (k + 1) i v = v := by
  rw [bwL, if_neg hi]
theorem AI_sm (hf : f ≤ 80) (hW : WI w f) (h : AI w f n A) {t a b : Nat} (ht : t < n) (hn : n ≤ 4) (hab : a < b) (hb : b + t < f) : ∃ N, N ≤ 10000000 ∧ bwQ w f a (nI b) + A (80 * t + b) = nI N := by
  obtain ⟨N, hN, e⟩ := bwQ_nI hf hW (a := a) (by omega) (Or.inr ⟨b, rfl, hab, by omega⟩)
  obtain ⟨k1, k2, -⟩ := h t b ht (by omega)
  rcases k1 with z | ⟨N1, hN1, e1⟩
  · exact absurd z (k2 hb)
  · exact ⟨N + N1, by omega, by rw [e, e1, nI_add]⟩
def ab_v (M : fc_M) (S : tT) (U : tU) (w : Nat → Int32) (P : tT → Prop) : Outcome → fc_M → Prop := fun o M2 => o = .returned none ∧ ∃ S', M2 = cR M S' U 32 w ∧ pS S S' ∧ P S'
set_option maxHeartbeats 1000000 in
theorem m_ab26 {n0 s0 : Nat} (hO0 : PC g M S0 π 32 f nC w) (hp : plA π) (hf8 : f ≤ 80) (hWt0 : ∀ i, i < f → S0 30 i = w (740 + i)) (hAb : ∀ j, j < 4 → fc_ct M 235 j = .ref (fc_B g + (236 + j))) (hn : n ≤ 4) (hn1 : 1 ≤ n) (hnf : n ≤ f) (hW : WI w f) (hA : AI w f n A) (hA0 : ∀ a, a < f → A (80 * 0 + a) = bwQ w f a (-1)) {a : Nat} (ha : a < f) (hS : pS S0 S) {Q : Outcome → fc_M → Prop} : ∀ (k i : Nat) (v : Int32) (o4 : Option Value), a < i → i ≤ f → f < i + k → (∀ v3 v4, fc_X g l yX0_findsAbove cX0_findsAbove 5 (none) 2 n0 s0 (cR M (tu S (236 + 0) a (bwL w f a (-1) k i v)) U 32 w) 64 [some (.ref (fc_B g + 0)), some (.int (nI n)), some (.int (nI a)), v3, v4] [] (Q)) → fc_X g l yX0_findsAbove cX0_findsAbove 5 (none) 2 n0 s0 (cR M (tu S (236 + 0) a v) U 32 w) 26 [some (.ref (fc_B g + 0)), some (.int (nI n)), some (.int (nI a)), some (.int (nI i)), o4] [] (Q) := by
  intro k
  induction k with
  | zero => intro i v o4 h0 h1 h2 kk; omega
  | succ k ih =>
    intro i v o4 h0 h1 h2 kk
    have hO := PC_pS hO0 hp hS
    have hWt : ∀ i, i < f → S 30 i = w (740 + i) := fun i hi => (hS 30 i (by omega)).trans (hWt0 i hi)
    have hO := PC_tu (a := 236 + 0) (k := a) (x := v) hO hp (by omega)
    refine x_iload_n dX0_findsAbove_26 rfl ?_
    refine x_aload_n dX0_findsAbove_27 rfl ?_
    refine k_plan hO dX0_findsAbove_28 q410 ?_
    refine k_plF 0 (nI f) hO (Or.inl ⟨rfl, rfl⟩) dX0_findsAbove_31 q211 ?_
    refine x_icmpN_ge (tgt := 64) dX0_findsAbove_34 (by decide) (by omega) (by omega) (fun hc34 => ?_) (fun hc34 => ?_)
    · rw [bwL_m0 (Nat.not_lt.mpr hc34)] at kk
      exact kk _ _
    · refine x_aload_n dX0_findsAbove_37 rfl ?_
      refine k_Fref 22 hO.1 rfl (by decide) rfl dX0_findsAbove_38 q420 ?_
      refine x_ic0 dX0_findsAbove_41 ?_
      refine k_abr hO.1 hAb dX0_findsAbove_42 (by omega) ?_
      refine x_iload_n dX0_findsAbove_43 rfl ?_
      refine x_dup2 dX0_findsAbove_44 rfl rfl ?_
      refine k_ald dX0_findsAbove_45 (by have := hO.1.1; omega) (sh_ab hO.1 (by omega)) (by decide) (by omega) (by omega) ?_
      refine x_top tu_at ?_
      refine x_aload_n dX0_findsAbove_46 rfl ?_
      refine k_Fref 15 hO.1 rfl (by decide) rfl dX0_findsAbove_47 q412 ?_
      refine x_iload_n dX0_findsAbove_50 rfl ?_
      refine k_ald (a := 30) dX0_findsAbove_51 (show 30 < fc_nx M by have := hO.1.1; omega) (hO.1.2.2 30 _ rfl) (by decide) (by omega) (by omega) ?_
      refine x_top ((if_neg (fun z => absurd z.1 (by decide))).trans (hWt _ (by omega)) : tu S (236 + 0) a v 30 i = w (740 + i)) ?_
      refine x_iload_n dX0_findsAbove_52 rfl ?_
      refine x_iload_n dX0_findsAbove_53 rfl ?_
      refine x_isubN dX0_findsAbove_54 (by omega) ?_
      refine x_imul dX0_findsAbove_55 ?_
      refine x_iadd dX0_findsAbove_56 ?_
      refine k_ast dX0_findsAbove_57 (by have := hO.1.1; omega) (sh_ab hO.1 (by omega)) (by decide) (by omega) (by omega) ?_
      rw [tu_tu]
      refine x_iincN (n := 1) dX0_findsAbove_58 (by decide) rfl (by decide) rfl ?_
      refine x_goto (tgt := 26) dX0_findsAbove_61 (by decide) ?_
      rw [bwL_m1 hc34 hf8] at kk
      exact ih (i + 1) _ _ (by omega) (by omega) (by omega) kk
set_option maxHeartbeats 1000000 in
theorem m_ab2 {n0 s0 : Nat} (hO0 : PC g M S0 π 32 f nC w) (hp : plA π) (hf8 : f ≤ 80) (hWt0 : ∀ i, i < f → S0 30 i = w (740 + i)) (hAb : ∀ j, j < 4 → fc_ct M 235 j = .ref (fc_B g + (236 + j))) (hn : n ≤ 4) (hn1 : 1 ≤ n) (hnf : n ≤ f) (hW : WI w f) (hA : AI w f n A) (hA0 : ∀ a, a < f → A (80 * 0 + a) = bwQ w f a (-1)) {Q : Outcome → fc_M → Prop} : ∀ (k a : Nat) (S : tT) (o3 o4 : Option Value), a ≤ f → f < a + k → pS S0 S → IA S f A 0 a → (∀ S v2 v3 v4, pS S0 S → IA S f A 1 0 → fc_X g l yX0_findsAbove cX0_findsAbove 5 (none) 2 n0 s0 (cR M S U 32 w) 70 [some (.ref (fc_B g + 0)), some (.int (nI n)), v2, v3, v4] [] (Q)) → fc_X g l yX0_findsAbove cX0_findsAbove 5 (none) 2 n0 s0 (cR M S U 32 w) 2 [some (.ref (fc_B g + 0)), some (.int (nI n)), some (.int (nI a)), o3, o4] [] (Q) := by
  intro k
  induction k with
  | zero => intro a S o3 o4 h1 h2 hS hI kk; omega
  | succ k ih =>
    intro a S o3 o4 h1 h2 hS hI kk
    have hO := PC_pS hO0 hp hS
    have hWt : ∀ i, i < f → S 30 i = w (740 + i) := fun i hi => (hS 30 i (by omega)).trans (hWt0 i hi)
    refine x_iload_n dX0_findsAbove_2 rfl ?_
    refine x_aload_n dX0_findsAbove_3 rfl ?_
    refine k_plan hO dX0_findsAbove_4 q410 ?_
    refine k_plF 0 (nI f) hO (Or.inl ⟨rfl, rfl⟩) dX0_findsAbove_7 q211 ?_
    refine x_icmpN_ge (tgt := 70) dX0_findsAbove_10 (by decide) (by omega) (by omega) (fun hc10 => ?_) (fun hc10 => ?_)
    · exact kk _ _ _ _ hS (IA_next hI (by omega))
    · refine x_aload_n dX0_findsAbove_13 rfl ?_
      refine k_Fref 22 hO.1 rfl (by decide) rfl dX0_findsAbove_14 q420 ?_
      refine x_ic0 dX0_findsAbove_17 ?_
      refine k_abr hO.1 hAb dX0_findsAbove_18 (by omega) ?_
      refine x_iload_n dX0_findsAbove_19 rfl ?_
      refine x_ic0 dX0_findsAbove_20 ?_
      refine k_ast dX0_findsAbove_21 (by have := hO.1.1; omega) (sh_ab hO.1 (by omega)) (by decide) (by omega) (by omega) ?_
      refine x_iload_n dX0_findsAbove_22 rfl ?_
      refine x_ic1 dX0_findsAbove_23 ?_
      refine x_iaddN dX0_findsAbove_24 ?_
      refine x_istore_n dX0_findsAbove_25 (by decide) rfl ?_
      refine m_ab26 hO0 hp hf8 hWt0 hAb hn hn1 hnf hW hA hA0 hc10 hS (f - a) (a + 1) _ _ (by omega) (by omega) (by omega) (fun v3 v4 => ?_)
      refine x_iincN (n := 1) dX0_findsAbove_64 (by decide) rfl (by decide) rfl ?_
      refine x_goto (tgt := 2) dX0_findsAbove_67 (by decide) ?_
      exact ih (a + 1) _ _ _ (by omega) (by omega) (pS.tu hS (by decide)) (IA_tu (j := 0) hI (hA0 a hc10).symm) kk
theorem kG_X0_X0_between : GoodIn lw_all (wsV RX0 498 RX0 yX0_between (ws_ yX0_between cX0_between 5 (some .int))) := lw_V q1096 q1098 qs46 q118 q1099
theorem kP_X0_between : kPar yX0_between 2 := by decide +kernel
set_option maxHeartbeats 1000000 in
theorem m_ab108 {n0 s0 : Nat} (hO0 : PC g M S0 π 32 f nC w) (hp : plA π) (hf8 : f ≤ 80) (hWt0 : ∀ i, i < f → S0 30 i = w (740 + i)) (hAb : ∀ j, j < 4 → fc_ct M 235 j = .ref (fc_B g + (236 + j))) (hn : n ≤ 4) (hn1 : 1 ≤ n) (hnf : n ≤ f) (hW : WI w f) (hA : AI w f n A) (hA0 : ∀ a, a < f → A (80 * 0 + a) = bwQ w f a (-1)) {m a : Nat} (hm0 : 1 ≤ m) (hm : m < n) (ha : a + m < f) (hS : pS S0 S) (hI : IA S f A m a) {Q : Outcome → fc_M → Prop} : ∀ (k i : Nat) (v : Int32), a < i → i ≤ f + 1 - m → f < i + k → (∀ v4, fc_X g l yX0_findsAbove cX0_findsAbove 5 (none) 2 n0 s0 (cR M (tu S (236 + m) a (mV (laS w f m a A k i v))) U 32 w) 168 [some (.ref (fc_B g + 0)), some (.int (nI n)), some (.int (nI m)), some (.int (nI a)), v4] [] (Q)) → fc_X g l yX0_findsAbove cX0_findsAbove 5 (none) 2 n0 s0 (cR M (tu S (236 + m) a (mV v)) U 32 w) 108 [some (.ref (fc_B g + 0)), some (.int (nI n)), some (.int (nI m)), some (.int (nI a)), some (.int (nI i))] [] (Q) := by
  intro k
  induction k with
  | zero => intro i v h0 h1 h2 kk; omega
  | succ k ih =>
    intro i v h0 h1 h2 kk
    have hO := PC_pS hO0 hp hS
    have hWt : ∀ i, i < f → S 30 i = w (740 + i) := fun i hi => (hS 30 i (by omega)).trans (hWt0 i hi)
    have hO := PC_tu (a := 236 + m) (k := a) (x := mV v) hO hp (by omega)
    have hWt : ∀ i, i < f → tu S (236 + m) a (mV v) 30 i = w (740 + i) := fun i hi => (if_neg (fun z => by omega)).trans (hWt i hi)
    refine x_iload dX0_findsAbove_108 rfl ?_
    refine x_aload_n dX0_findsAbove_110 rfl ?_
    refine k_plan hO dX0_findsAbove_111 q410 ?_
    refine k_plF 0 (nI f) hO (Or.inl ⟨rfl, rfl⟩) dX0_findsAbove_114 q211 ?_
    refine x_iload_n dX0_findsAbove_117 rfl ?_
    refine x_isubN dX0_findsAbove_118 (by omega) ?_
    refine x_ic1 dX0_findsAbove_119 ?_
    refine x_iaddN dX0_findsAbove_120 ?_
    refine x_icmpN_ge (tgt := 168) dX0_findsAbove_121 (by decide) (by omega) (by omega) (fun hc121 => ?_) (fun hc121 => ?_)
    · rw [laS_off _ _ _ (fun b h1 h2 => AI_out hA (m - 1) b (by omega) h2 (by omega))] at kk
      exact kk _
    · refine x_aload_n dX0_findsAbove_124 rfl ?_
      refine k_Fref 22 hO.1 rfl (by decide) rfl dX0_findsAbove_125 q420 ?_
      refine x_iload_n dX0_findsAbove_128 rfl ?_
      refine k_abr hO.1 hAb dX0_findsAbove_129 (by omega) ?_
      refine x_iload_n dX0_findsAbove_130 rfl ?_
      refine x_aload_n dX0_findsAbove_131 rfl ?_
      refine k_Fref 22 hO.1 rfl (by decide) rfl dX0_findsAbove_132 q420 ?_
      refine x_iload_n dX0_findsAbove_135 rfl ?_
      refine k_abr hO.1 hAb dX0_findsAbove_136 (by omega) ?_
      refine x_iload_n dX0_findsAbove_137 rfl ?_
      refine k_ald dX0_findsAbove_138 (by have := hO.1.1; omega) (sh_ab hO.1 (by omega)) (by decide) (by omega) (by omega) ?_
      refine x_top tu_at ?_
      refine x_aload_n dX0_findsAbove_139 rfl ?_
      refine x_iload_n dX0_findsAbove_140 rfl ?_
      refine x_iload dX0_findsAbove_141 rfl ?_
      refine k_V2iF hO.1 dX0_findsAbove_143 kG_X0_X0_between kP_X0_between rfl (by omega) (by decide) (Nat.le_of_ble_eq_true rfl) (d_between hO hf8 hWt (by omega) (by omega)) ?_
      refine x_aload_n dX0_findsAbove_146 rfl ?_
      refine k_Fref 22 hO.1 rfl (by decide) rfl dX0_findsAbove_147 q420 ?_
      refine x_iload_n dX0_findsAbove_150 rfl ?_
      refine x_ic1 dX0_findsAbove_151 ?_
      refine x_isubN dX0_findsAbove_152 (by omega) ?_
      refine k_abr hO.1 hAb dX0_findsAbove_153 (by omega) ?_
      refine x_iload dX0_findsAbove_154 rfl ?_
      refine k_ald dX0_findsAbove_156 (by have := hO.1.1; omega) (sh_ab hO.1 (by omega)) (by decide) (by omega) (by omega) ?_
      refine x_top (w := A (80 * (m - 1) + i)) ((if_neg (fun z => by omega)).trans (hI.1 (m - 1) i (by omega) (by omega))) ?_
      refine x_iadd dX0_findsAbove_157 ?_
      refine x_mmin dX0_findsAbove_158 q590 (by omega) (Nat.le_of_ble_eq_true rfl) ?_
      refine x_top (mV_min (AI_sm hf8 hW hA (by omega) hn (by omega) (by omega))) ?_
      refine k_ast dX0_findsAbove_161 (by have := hO.1.1; omega) (sh_ab hO.1 (by omega)) (by decide) (by omega) (by omega) ?_
      rw [tu_tu]
      refine x_iincN (n := 1) dX0_findsAbove_162 (by decide) rfl (by decide) rfl ?_
      refine x_goto (tgt := 108) dX0_findsAbove_165 (by decide) ?_
      rw [laS, if_pos (by omega), if_neg ((hA (m - 1) i (by omega) (by omega)).2.1 (by omega))] at kk
      exact ih (i + 1) _ (by omega) (by omega) (by omega) kk
set_option maxHeartbeats 1000000 in
theorem m_ab79 {n0 s0 : Nat} (hO0 : PC g M S0 π 32 f nC w) (hp : plA π) (hf8 : f ≤ 80) (hWt0 : ∀ i, i < f → S0 30 i = w (740 + i)) (hAb : ∀ j, j < 4 → fc_ct M 235 j = .ref (fc_B g + (236 + j))) (hn : n ≤ 4) (hn1 : 1 ≤ n) (hnf : n ≤ f) (hW : WI w f) (hA : AI w f n A) (hA0 : ∀ a, a < f → A (80 * 0 + a) = bwQ w f a (-1)) {m : Nat} (hm0 : 1 ≤ m) (hm : m < n) {Q : Outcome → fc_M → Prop} : ∀ (k a : Nat) (S : tT) (o4 : Option Value), a + m ≤ f → f < a + k → pS S0 S → IA S f A m a → (∀ S v3 v4, pS S0 S → IA S f A (m + 1) 0 → fc_X g l yX0_findsAbove cX0_findsAbove 5 (none) 2 n0 s0 (cR M S U 32 w) 174 [some (.ref (fc_B g + 0)), some (.int (nI n)), some (.int (nI m)), v3, v4] [] (Q)) → fc_X g l yX0_findsAbove cX0_findsAbove 5 (none) 2 n0 s0 (cR M S U 32 w) 79 [some (.ref (fc_B g + 0)), some (.int (nI n)), some (.int (nI m)), some (.int (nI a)), o4] [] (Q) := by
  intro k
  induction k with
  | zero => intro a S o4 h1 h2 hS hI kk; omega
  | succ k ih =>
    intro a S o4 h1 h2 hS hI kk
    have hO := PC_pS hO0 hp hS
    have hWt : ∀ i, i < f → S 30 i = w (740 + i) := fun i hi => (hS 30 i (by omega)).trans (hWt0 i hi)
    refine x_iload_n dX0_findsAbove_79 rfl ?_
    refine x_aload_n dX0_findsAbove_80 rfl ?_
    refine k_plan hO dX0_findsAbove_81 q410 ?_
    refine k_plF 0 (nI f) hO (Or.inl ⟨rfl, rfl⟩) dX0_findsAbove_84 q211 ?_
    refine x_iload_n dX0_findsAbove_87 rfl ?_
    refine x_isubN dX0_findsAbove_88 (by omega) ?_
    refine x_icmpN_ge (tgt := 174) dX0_findsAbove_89 (by decide) (by omega) (by omega) (fun hc89 => ?_) (fun hc89 => ?_)
    · exact kk _ _ _ hS (IA_next hI (by omega))
    · refine x_aload_n dX0_findsAbove_92 rfl ?_
      refine k_Fref 22 hO.1 rfl (by decide) rfl dX0_findsAbove_93 q420 ?_
      refine x_iload_n dX0_findsAbove_96 rfl ?_
      refine k_abr hO.1 hAb dX0_findsAbove_97 (by omega) ?_
      refine x_iload_n dX0_findsAbove_98 rfl ?_
      refine x_ldcw dX0_findsAbove_99 q1095 ?_
      refine k_ast dX0_findsAbove_102 (by have := hO.1.1; omega) (sh_ab hO.1 (by omega)) (by decide) (by omega) (by omega) ?_
      refine x_iload_n dX0_findsAbove_103 rfl ?_
      refine x_ic1 dX0_findsAbove_104 ?_
      refine x_iaddN dX0_findsAbove_105 ?_
      refine x_istore dX0_findsAbove_106 (by decide) rfl ?_
      refine m_ab108 hO0 hp hf8 hWt0 hAb hn hn1 hnf hW hA hA0 hm0 hm (by omega) hS hI (f - a) (a + 1) (-1) (by omega) (by omega) (by omega) (fun v4 => ?_)
      refine x_iincN (n := 1) dX0_findsAbove_168 (by decide) rfl (by decide) rfl ?_
      refine x_goto (tgt := 79) dX0_findsAbove_171 (by decide) ?_
      have k9 := hA m a hm (by omega)
      have e9 := k9.2.2 (by omega)
      exact ih (a + 1) _ _ (by omega) (by omega) (pS.tu hS (by omega)) (IA_tu hI (by rw [← e9, mV, if_neg (k9.2.1 (by omega))])) kk
set_option maxHeartbeats 1000000 in
theorem m_ab72 {n0 s0 : Nat} (hO0 : PC g M S0 π 32 f nC w) (hp : plA π) (hf8 : f ≤ 80) (hWt0 : ∀ i, i < f → S0 30 i = w (740 + i)) (hAb : ∀ j, j < 4 → fc_ct M 235 j = .ref (fc_B g + (236 + j))) (hn : n ≤ 4) (hn1 : 1 ≤ n) (hnf : n ≤ f) (hW : WI w f) (hA : AI w f n A) (hA0 : ∀ a, a < f → A (80 * 0 + a) = bwQ w f a (-1)) : ∀ (k m : Nat) (S : tT) (o3 o4 : Option Value), 1 ≤ m → m ≤ n → n < m + k → pS S0 S → IA S f A m 0 → fc_X g l yX0_findsAbove cX0_findsAbove 5 (none) 2 n0 s0 (cR M S U 32 w) 72 [some (.ref (fc_B g + 0)), some (.int (nI n)), some (.int (nI m)), o3, o4] [] (ab_v M S0 U w (fun S' => IA S' f A n 0)) := by
  intro k
  induction k with
  | zero => intro m S o3 o4 h0 h1 h2 hS hI; omega
  | succ k ih =>
    intro m S o3 o4 h0 h1 h2 hS hI
    have hO := PC_pS hO0 hp hS
    have hWt : ∀ i, i < f → S 30 i = w (740 + i) := fun i hi => (hS 30 i (by omega)).trans (hWt0 i hi)
    refine x_iload_n dX0_findsAbove_72 rfl ?_
    refine x_iload_n dX0_findsAbove_73 rfl ?_
    refine x_icmpN_ge (tgt := 180) dX0_findsAbove_74 (by decide) (by omega) (by omega) (fun hc74 => ?_) (fun hc74 => ?_)
    · obtain rfl : m = n := by omega
      exact x_vret dX0_findsAbove_180 rfl ⟨rfl, S, rfl, hS, hI⟩
    · refine x_ic0 dX0_findsAbove_77 ?_
      refine x_istore_n dX0_findsAbove_78 (by decide) rfl ?_
      refine m_ab79 hO0 hp hf8 hWt0 hAb hn hn1 hnf hW hA hA0 h0 hc74 (f + 1) 0 S _ (by omega) (by omega) hS hI (fun S v3 v4 hS hI => ?_)
      refine x_iincN (n := 1) dX0_findsAbove_174 (by decide) rfl (by decide) rfl ?_
      refine x_goto (tgt := 72) dX0_findsAbove_177 (by decide) ?_
      exact ih (m + 1) _ _ _ (by omega) (by omega) (by omega) hS hI
set_option maxHeartbeats 1000000 in
theorem d_findsAbove (hO0 : PC g M S0 π 32 f nC w) (hp : plA π) (hf8 : f ≤ 80) (hWt0 : ∀ i, i < f → S0 30 i = w (740 + i)) (hAb : ∀ j, j < 4 → fc_ct M 235 j = .ref (fc_B g + (236 + j))) (hn : n ≤ 4) (hn1 : 1 ≤ n) (hnf : n ≤ f) (hW : WI w f) (hA : AI w f n A) (hA0 : ∀ a, a < f → A (80 * 0 + a) = bwQ w f a (-1)) : fc_CX g l yX0_findsAbove cX0_findsAbove 5 (none) 2 [.ref (fc_B g + 0), .int (nI n)] (cR M S0 U 32 w) (ab_v M S0 U w (fun S' => IA S' f A n 0)) := by
  refine fc_enter (by decide) (Nat.le_of_ble_eq_true rfl) rfl ?_
  refine x_ic0 dX0_findsAbove_0 ?_
  refine x_istore_n dX0_findsAbove_1 (by decide) rfl ?_
  refine m_ab2 hO0 hp hf8 hWt0 hAb hn hn1 hnf hW hA hA0 (f + 1) 0 S0 _ _ (by omega) (by omega) (fun _ _ _ => rfl) ⟨fun t a ht => absurd ht (by omega), fun a ha => absurd ha (by omega)⟩ (fun S v2 v3 v4 hS hI => ?_)
  refine x_ic1 dX0_findsAbove_70 ?_
  refine x_istore_n dX0_findsAbove_71 (by decide) rfl ?_
  exact m_ab72 hO0 hp hf8 hWt0 hAb hn hn1 hnf hW hA hA0 n 1 S _ _ (by omega) (by omega) (by omega) hS hI
end T99ZV

set_option maxRecDepth 100000
section T99ZW
variable {g : fc_G} {l : Launch} {M : fc_M} {S S0 : tT} {U : tU} {w : Nat → Int32} {π f nC n : Nat} {A : Nat → Int32}
abbrev pT (S S' : tT) : Prop := ∀ a k, (a < 236 ∨ 240 < a) → S' a k = S a k
theorem pT.tu {S' : tT} {a k : Nat} {x : Int32} (h : pT S S') (ha : 236 ≤ a ∧ a ≤ 240) : pT S (tu S' a k x) := fun b j hb => (if_neg (fun z => by omega)).trans (h b j hb)
theorem PC_pT {S' : tT} {F : Nat} (hO : PC g M S π 32 F nC w) (hp : plA π) (h : pT S S') : PC g M S' π 32 F nC w := PC_off hO (fun a k a1 a2 => h a k (by rcases hp with e | e <;> omega))
theorem tu_rw {a i : Nat} {x : Int32} : tu S a i x a = up (S a) i x := by
  funext k
  show (if a = a ∧ k = i then x else S a k) = (if k = i then x else S a k)
  by_cases e : k = i
  · rw [if_pos e, if_pos ⟨rfl, e⟩]
  · rw [if_neg e, if_neg (fun z => e z.2)]
theorem IA_240 {i : Nat} {x : Int32} (hn : n ≤ 4) (h : IA S f A n 0) : IA (tu S 240 i x) f A n 0 := ⟨fun t a ht ha => (if_neg (fun z => by omega)).trans (h.1 t a ht ha), fun a ha => absurd ha (by omega)⟩
theorem ppS_ne (hf : f ≤ 80) (hW : WI w f) (hn : n ≤ 4) (hn1 : 1 ≤ n) (h : AI w f n A) : ∀ (k a : Nat) (s : Int32) (C : Nat → Int32), f < a + k → (¬ s = -1 ∨ a + (n - 1) < f) → ¬ (ppS w f n A k a s C).1 = -1
  | 0, a, s, C, h1, h2 => by
    rcases h2 with q | q
    · exact q
    · omega
  | k + 1, a, s, C, h1, h2 => by
    by_cases c1 : a < f
    · by_cases c2 : A (80 * (n - 1) + a) = -1
      · rw [ppS, if_pos c1, if_pos c2]
        refine ppS_ne hf hW hn hn1 h k (a + 1) s C (by omega) ?_
        rcases h2 with q | q
        · exact Or.inl q
        · exact absurd c2 ((h (n - 1) a (by omega) c1).2.1 q)
      · rw [ppS, if_pos c1, if_neg c2]
        have hv : ¬ blQ w a + A (80 * (n - 1) + a) = -1 := by
          obtain ⟨N, hN, e⟩ := blQ_nI hf hW c1
          rcases (h (n - 1) a (by omega) c1).1 with z | ⟨N1, hN1, e1⟩
          · exact absurd z c2
          · rw [e, e1, nI_add]
            exact bO_ne (by omega)
        split
        · exact ppS_ne hf hW hn hn1 h k (a + 1) _ _ (by omega) (Or.inl hv)
        · rename_i c3
          exact ppS_ne hf hW hn hn1 h k (a + 1) s C (by omega) (Or.inl (fun z => c3 (Or.inl z)))
    · rw [ppS, if_neg c1]
      rcases h2 with q | q
      · exact q
      · omega
theorem ppS_off : ∀ (k a : Nat) (s : Int32) (C : Nat → Int32), (∀ b, a ≤ b → b < f → A (80 * (n - 1) + b) = -1) → ppS w f n A k a s C = (s, C)
  | 0, _, _, _, _ => rfl
  | k + 1, a, s, C, h => by
    by_cases c : a < f
    · rw [ppS, if_pos c, if_pos (h a (Nat.le_refl _) c)]
      exact ppS_off k (a + 1) s C (fun b h1 h2 => h b (by omega) h2)
    · rw [ppS, if_neg c]
theorem mV_lt {s v : Int32} (h : ∃ N, N ≤ 10000000 ∧ v = nI N) : v < mV s ↔ (s = -1 ∨ v < s) := by
  obtain ⟨N, hN, rfl⟩ := h
  by_cases c : s = -1
  · rw [mV, if_pos c]
    exact ⟨fun _ => Or.inl c, fun _ => nI_lt (b := 2147483647) (by omega) (by decide)⟩
  · rw [mV, if_neg c]
    exact ⟨Or.inr, fun z => z.resolve_left c⟩
theorem AI_bl (hf : f ≤ 80) (hW : WI w f) (h : AI w f n A) {t a : Nat} (ht : t < n) (hn : n ≤ 4) (hb : a + t < f) : ∃ N, N ≤ 10000000 ∧ blQ w a + A (80 * t + a) = nI N := by
  obtain ⟨N, hN, e⟩ := blQ_nI hf hW (f := a) (by omega)
  obtain ⟨k1, k2, -⟩ := h t a ht (by omega)
  rcases k1 with z | ⟨N1, hN1, e1⟩
  · exact absurd z (k2 hb)
  · exact ⟨N + N1, by omega, by rw [e, e1, nI_add]⟩
def ap_i (M : fc_M) (S : tT) (U : tU) (w : Nat → Int32) (r : Int32) (P : tT → Prop) : Outcome → fc_M → Prop := fun o M2 => o = .returned (some (.int r)) ∧ ∃ S', M2 = cR M S' U 32 w ∧ pT S S' ∧ P S'
theorem kG_X0_X0_below : GoodIn lw_all (wsV RX0 504 RX0 yX0_below (ws_ yX0_below cX0_below 4 (some .int))) := lw_V q1100 q1102 qs47 q118 q1103
theorem kP_X0_below : kPar yX0_below 1 := by decide +kernel
set_option maxHeartbeats 1000000 in
theorem m_fp11 {n0 s0 : Nat} (hO0 : PC g M S0 π 32 f nC w) (hp : plA π) (hf8 : f ≤ 80) (hWt0 : ∀ i, i < f → S0 30 i = w (740 + i)) (hAb : ∀ j, j < 4 → fc_ct M 235 j = .ref (fc_B g + (236 + j))) (hn : n ≤ 4) (hn1 : 1 ≤ n) (hnf : n ≤ f) (hW : WI w f) (hA : AI w f n A) (hA0 : ∀ a, a < f → A (80 * 0 + a) = bwQ w f a (-1)) {Q : Outcome → fc_M → Prop} : ∀ (k a : Nat) (s : Int32) (S : tT) (o4 : Option Value) {o5 : Option Value}, a ≤ f + 1 - n → f < a + k → pT S0 S → IA S f A n 0 → (∀ S2 v3 v4, pT S0 S2 → IA S2 f A n 0 → S2 240 = (ppS w f n A k a s (S 240)).2 → fc_X g l yX0_findsPlaces cX0_findsPlaces 6 (some .int) 3 n0 s0 (cR M S2 U 32 w) 69 [some (.ref (fc_B g + 0)), some (.int (nI n)), some (.int (mV (ppS w f n A k a s (S 240)).1)), v3, v4, o5] [] (Q)) → fc_X g l yX0_findsPlaces cX0_findsPlaces 6 (some .int) 3 n0 s0 (cR M S U 32 w) 11 [some (.ref (fc_B g + 0)), some (.int (nI n)), some (.int (mV s)), some (.int (nI a)), o4, o5] [] (Q) := by
  intro k
  induction k with
  | zero => intro a s S o4 o5 h1 h2 hS hI kk; omega
  | succ k ih =>
    intro a s S o4 o5 h1 h2 hS hI kk
    have hO := PC_pT hO0 hp hS
    have hWt : ∀ i, i < f → S 30 i = w (740 + i) := fun i hi => (hS 30 i (by omega)).trans (hWt0 i hi)
    refine x_iload_n dX0_findsPlaces_11 rfl ?_
    refine x_aload_n dX0_findsPlaces_12 rfl ?_
    refine k_plan hO dX0_findsPlaces_13 q410 ?_
    refine k_plF 0 (nI f) hO (Or.inl ⟨rfl, rfl⟩) dX0_findsPlaces_16 q211 ?_
    refine x_iload_n dX0_findsPlaces_19 rfl ?_
    refine x_isubN dX0_findsPlaces_20 (by omega) ?_
    refine x_ic1 dX0_findsPlaces_21 ?_
    refine x_iaddN dX0_findsPlaces_22 ?_
    refine x_icmpN_ge (tgt := 69) dX0_findsPlaces_23 (by decide) (by omega) (by omega) (fun hc23 => ?_) (fun hc23 => ?_)
    · rw [ppS_off _ _ _ _ (fun b h1 h2 => AI_out hA (n - 1) b (by omega) h2 (by omega))] at kk
      exact kk S _ _ hS hI rfl
    · refine x_aload_n dX0_findsPlaces_26 rfl ?_
      refine x_iload_n dX0_findsPlaces_27 rfl ?_
      refine k_V1iF hO.1 dX0_findsPlaces_28 kG_X0_X0_below kP_X0_below rfl (by omega) (by decide) (Nat.le_of_ble_eq_true rfl) (d_below hO hf8 hWt (by omega)) ?_
      refine x_aload_n dX0_findsPlaces_31 rfl ?_
      refine k_Fref 22 hO.1 rfl (by decide) rfl dX0_findsPlaces_32 q420 ?_
      refine x_iload_n dX0_findsPlaces_35 rfl ?_
      refine x_ic1 dX0_findsPlaces_36 ?_
      refine x_isubN dX0_findsPlaces_37 (by omega) ?_
      refine k_abr hO.1 hAb dX0_findsPlaces_38 (by omega) ?_
      refine x_iload_n dX0_findsPlaces_39 rfl ?_
      refine k_ald dX0_findsPlaces_40 (by have := hO.1.1; omega) (sh_ab hO.1 (by omega)) (by decide) (by omega) (by omega) ?_
      refine x_top (w := A (80 * (n - 1) + a)) (hI.1 (n - 1) a (by omega) (by omega)) ?_
      refine x_iadd dX0_findsPlaces_41 ?_
      refine x_istore dX0_findsPlaces_42 (by decide) rfl ?_
      refine x_iload dX0_findsPlaces_44 rfl ?_
      refine x_iload_n dX0_findsPlaces_46 rfl ?_
      refine x_icmp_lt (tgt := 53) dX0_findsPlaces_47 (by decide) (fun hc47 => ?_) (fun hc47 => ?_)
      · refine x_iload dX0_findsPlaces_53 rfl ?_
        refine x_istore_n dX0_findsPlaces_55 (by decide) rfl ?_
        refine x_aload_n dX0_findsPlaces_56 rfl ?_
        refine k_Fref 23 hO.1 rfl (by decide) rfl dX0_findsPlaces_57 q421 ?_
        refine x_ic0 dX0_findsPlaces_60 ?_
        refine x_iload_n dX0_findsPlaces_61 rfl ?_
        refine k_ast (a := 240) dX0_findsPlaces_62 (show 240 < fc_nx M by have := hO.1.1; omega) (hO.1.2.2 240 _ rfl) (by decide) (by omega) (by omega) ?_
        refine x_iincN (n := 1) dX0_findsPlaces_63 (by decide) rfl (by decide) rfl ?_
        refine x_goto (tgt := 11) dX0_findsPlaces_66 (by decide) ?_
        rw [ppS, if_pos (by omega), if_neg ((hA (n - 1) a (by omega) (by omega)).2.1 (by omega)), if_pos ((mV_lt (AI_bl hf8 hW hA (by omega) hn (by omega))).mp hc47)] at kk
        have e9 : ¬ blQ w a + A (80 * (n - 1) + a) = -1 := by
          obtain ⟨N, hN, e⟩ := AI_bl hf8 hW hA (t := n - 1) (a := a) (by omega) hn (by omega)
          rw [e]
          exact bO_ne (by omega)
        rw [show blQ w a + A (80 * (n - 1) + a) = mV (blQ w a + A (80 * (n - 1) + a)) from (if_neg e9).symm]
        exact ih (a + 1) _ _ _ (by omega) (by omega) (pT.tu hS (by decide)) (IA_240 hn hI) (by rw [tu_rw]; exact kk)
      · refine x_goto (tgt := 63) dX0_findsPlaces_50 (by decide) ?_
        refine x_iincN (n := 1) dX0_findsPlaces_63 (by decide) rfl (by decide) rfl ?_
        refine x_goto (tgt := 11) dX0_findsPlaces_66 (by decide) ?_
        rw [ppS, if_pos (by omega), if_neg ((hA (n - 1) a (by omega) (by omega)).2.1 (by omega)), if_neg (fun z => hc47 ((mV_lt (AI_bl hf8 hW hA (by omega) hn (by omega))).mpr z))] at kk
        exact ih (a + 1) _ _ _ (by omega) (by omega) hS hI kk
set_option maxHeartbeats 1000000 in
theorem m_fp92 {n0 s0 : Nat} (hO0 : PC g M S0 π 32 f nC w) (hp : plA π) (hf8 : f ≤ 80) (hWt0 : ∀ i, i < f → S0 30 i = w (740 + i)) (hAb : ∀ j, j < 4 → fc_ct M 235 j = .ref (fc_B g + (236 + j))) (hn : n ≤ 4) (hn1 : 1 ≤ n) (hnf : n ≤ f) (hW : WI w f) (hA : AI w f n A) (hA0 : ∀ a, a < f → A (80 * 0 + a) = bwQ w f a (-1)) {x2 : Int32} {i a bs : Nat} (hi1 : 1 ≤ i) (hi : i < n) (ha : a + (n - i) < f) (hbs : bs + (n - 1 - i) < f) (hs : ppC w f n A i a bs) (hS : pT S0 S) (hI : IA S f A n 0) {Q : Outcome → fc_M → Prop} : ∀ (k b : Nat), a < b → b ≤ bs → bs < b + k → (fc_X g l yX0_findsPlaces cX0_findsPlaces 6 (some .int) 3 n0 s0 (cR M S U 32 w) 134 [some (.ref (fc_B g + 0)), some (.int (nI n)), some (.int (x2)), some (.int (nI i)), some (.int (nI a)), some (.int (nI (ppF w f n A i a k b)))] [] (Q)) → fc_X g l yX0_findsPlaces cX0_findsPlaces 6 (some .int) 3 n0 s0 (cR M S U 32 w) 92 [some (.ref (fc_B g + 0)), some (.int (nI n)), some (.int (x2)), some (.int (nI i)), some (.int (nI a)), some (.int (nI b))] [] (Q) := by
  intro k
  induction k with
  | zero => intro b h0 h1 h2 kk; omega
  | succ k ih =>
    intro b h0 h1 h2 kk
    have hO := PC_pT hO0 hp hS
    have hWt : ∀ i, i < f → S 30 i = w (740 + i) := fun i hi => (hS 30 i (by omega)).trans (hWt0 i hi)
    refine x_aload_n dX0_findsPlaces_92 rfl ?_
    refine x_iload dX0_findsPlaces_93 rfl ?_
    refine x_iload dX0_findsPlaces_95 rfl ?_
    refine k_V2iF hO.1 dX0_findsPlaces_97 kG_X0_X0_between kP_X0_between rfl (by omega) (by decide) (Nat.le_of_ble_eq_true rfl) (d_between hO hf8 hWt (by omega) (by omega)) ?_
    refine x_aload_n dX0_findsPlaces_100 rfl ?_
    refine k_Fref 22 hO.1 rfl (by decide) rfl dX0_findsPlaces_101 q420 ?_
    refine x_iload_n dX0_findsPlaces_104 rfl ?_
    refine x_ic1 dX0_findsPlaces_105 ?_
    refine x_isubN dX0_findsPlaces_106 (by omega) ?_
    refine x_iload_n dX0_findsPlaces_107 rfl ?_
    refine x_isubN dX0_findsPlaces_108 (by omega) ?_
    refine k_abr hO.1 hAb dX0_findsPlaces_109 (by omega) ?_
    refine x_iload dX0_findsPlaces_110 rfl ?_
    refine k_ald dX0_findsPlaces_112 (by have := hO.1.1; omega) (sh_ab hO.1 (by omega)) (by decide) (by omega) (by omega) ?_
    refine x_top (w := A (80 * (n - 1 - i) + b)) (hI.1 (n - 1 - i) b (by omega) (by omega)) ?_
    refine x_iadd dX0_findsPlaces_113 ?_
    refine x_aload_n dX0_findsPlaces_114 rfl ?_
    refine k_Fref 22 hO.1 rfl (by decide) rfl dX0_findsPlaces_115 q420 ?_
    refine x_iload_n dX0_findsPlaces_118 rfl ?_
    refine x_iload_n dX0_findsPlaces_119 rfl ?_
    refine x_isubN dX0_findsPlaces_120 (by omega) ?_
    refine k_abr hO.1 hAb dX0_findsPlaces_121 (by omega) ?_
    refine x_iload dX0_findsPlaces_122 rfl ?_
    refine k_ald dX0_findsPlaces_124 (by have := hO.1.1; omega) (sh_ab hO.1 (by omega)) (by decide) (by omega) (by omega) ?_
    refine x_top (w := A (80 * (n - i) + a)) (hI.1 (n - i) a (by omega) (by omega)) ?_
    refine x_icmp_eq (tgt := 134) dX0_findsPlaces_125 (by decide) (fun hc125 => ?_) (fun hc125 => ?_)
    · rw [ppF, if_neg ((hA (n - 1 - i) b (by omega) (by omega)).2.1 (by omega)), if_pos hc125] at kk
      exact kk
    · refine x_iincN (n := 1) dX0_findsPlaces_128 (by decide) rfl (by decide) rfl ?_
      refine x_goto (tgt := 92) dX0_findsPlaces_131 (by decide) ?_
      rw [ppF, if_neg ((hA (n - 1 - i) b (by omega) (by omega)).2.1 (by omega)), if_neg hc125] at kk
      have hb : b ≠ bs := by
        intro e
        subst e
        exact hc125 hs.2
      exact ih (b + 1) (by omega) (by omega) (by omega) kk
set_option maxHeartbeats 1000000 in
theorem b_fp134 {n0 s0 : Nat} (hO0 : PC g M S0 π 32 f nC w) (hp : plA π) (hf8 : f ≤ 80) (hWt0 : ∀ i, i < f → S0 30 i = w (740 + i)) (hAb : ∀ j, j < 4 → fc_ct M 235 j = .ref (fc_B g + (236 + j))) (hn : n ≤ 4) (hn1 : 1 ≤ n) (hnf : n ≤ f) (hW : WI w f) (hA : AI w f n A) (hA0 : ∀ a, a < f → A (80 * 0 + a) = bwQ w f a (-1)) {x2 : Int32} {i b : Nat} {o4 : Option Value} (hi : i < n) (hS : pT S0 S) {Q : Outcome → fc_M → Prop} (kk : fc_X g l yX0_findsPlaces cX0_findsPlaces 6 (some .int) 3 n0 s0 (cR M (tu S 240 i (nI b)) U 32 w) 71 [some (.ref (fc_B g + 0)), some (.int (nI n)), some (.int (x2)), some (.int (nI (i + 1))), o4, some (.int (nI b))] [] (Q)) : fc_X g l yX0_findsPlaces cX0_findsPlaces 6 (some .int) 3 n0 s0 (cR M S U 32 w) 134 [some (.ref (fc_B g + 0)), some (.int (nI n)), some (.int (x2)), some (.int (nI i)), o4, some (.int (nI b))] [] (Q) := by
  have hO := PC_pT hO0 hp hS
  have hWt : ∀ i, i < f → S 30 i = w (740 + i) := fun i hi => (hS 30 i (by omega)).trans (hWt0 i hi)
  refine x_aload_n dX0_findsPlaces_134 rfl ?_
  refine k_Fref 23 hO.1 rfl (by decide) rfl dX0_findsPlaces_135 q421 ?_
  refine x_iload_n dX0_findsPlaces_138 rfl ?_
  refine x_iload dX0_findsPlaces_139 rfl ?_
  refine k_ast (a := 240) dX0_findsPlaces_141 (show 240 < fc_nx M by have := hO.1.1; omega) (hO.1.2.2 240 _ rfl) (by decide) (by omega) (by omega) ?_
  refine x_iincN (n := 1) dX0_findsPlaces_142 (by decide) rfl (by decide) rfl ?_
  refine x_goto (tgt := 71) dX0_findsPlaces_145 (by decide) ?_
  exact kk
set_option maxHeartbeats 1000000 in
theorem m_fp71 {n0 s0 : Nat} (hO0 : PC g M S0 π 32 f nC w) (hp : plA π) (hf8 : f ≤ 80) (hWt0 : ∀ i, i < f → S0 30 i = w (740 + i)) (hAb : ∀ j, j < 4 → fc_ct M 235 j = .ref (fc_B g + (236 + j))) (hn : n ≤ 4) (hn1 : 1 ≤ n) (hnf : n ≤ f) (hW : WI w f) (hA : AI w f n A) (hA0 : ∀ a, a < f → A (80 * 0 + a) = bwQ w f a (-1)) {x2 : Int32} : ∀ (k i : Nat) (S : tT) (o4 o5 : Option Value) (Z : Nat → Int32), 1 ≤ i → i ≤ n → n < i + k → pT S0 S → IA S f A n 0 → (∃ a, a < f ∧ S 240 (i - 1) = nI a ∧ ¬ A (80 * (n - i) + a) = -1) → Z = (ppO w f n A k i (S 240)) → fc_X g l yX0_findsPlaces cX0_findsPlaces 6 (some .int) 3 n0 s0 (cR M S U 32 w) 71 [some (.ref (fc_B g + 0)), some (.int (nI n)), some (.int (x2)), some (.int (nI i)), o4, o5] [] (ap_i M S0 U w x2 (fun S2 => S2 240 = Z)) := by
  intro k
  induction k with
  | zero => intro i S o4 o5 Z h0 h1 h2 hS hI hX hZ; omega
  | succ k ih =>
    intro i S o4 o5 Z h0 h1 h2 hS hI hX hZ
    have hO := PC_pT hO0 hp hS
    have hWt : ∀ i, i < f → S 30 i = w (740 + i) := fun i hi => (hS 30 i (by omega)).trans (hWt0 i hi)
    obtain ⟨a, ha, hC, hN⟩ := hX
    refine x_iload_n dX0_findsPlaces_71 rfl ?_
    refine x_iload_n dX0_findsPlaces_72 rfl ?_
    refine x_icmpN_ge (tgt := 148) dX0_findsPlaces_73 (by decide) (by omega) (by omega) (fun hc73 => ?_) (fun hc73 => ?_)
    · refine x_iload_n dX0_findsPlaces_148 rfl ?_
      rw [ppO, if_neg (Nat.not_lt.mpr hc73)] at hZ
      exact x_iret dX0_findsPlaces_149 rfl rfl ⟨rfl, S, rfl, hS, hZ.symm⟩
    · refine x_aload_n dX0_findsPlaces_76 rfl ?_
      refine k_Fref 23 hO.1 rfl (by decide) rfl dX0_findsPlaces_77 q421 ?_
      refine x_iload_n dX0_findsPlaces_80 rfl ?_
      refine x_ic1 dX0_findsPlaces_81 ?_
      refine x_isubN dX0_findsPlaces_82 (by omega) ?_
      refine k_ald (a := 240) dX0_findsPlaces_83 (show 240 < fc_nx M by have := hO.1.1; omega) (hO.1.2.2 240 _ rfl) (by decide) (by omega) (by omega) ?_
      refine x_top hC ?_
      refine x_istore dX0_findsPlaces_84 (by decide) rfl ?_
      refine x_iload dX0_findsPlaces_86 rfl ?_
      refine x_ic1 dX0_findsPlaces_88 ?_
      refine x_iaddN dX0_findsPlaces_89 ?_
      refine x_istore dX0_findsPlaces_90 (by decide) rfl ?_
      obtain ⟨bs, e1, e2, e3, e4⟩ := AI_HS hA (n - i) a (by omega) (by omega) ha hN
      have ei : n - i - 1 = n - 1 - i := by omega
      rw [ei] at e3 e4
      have hs : ppC w f n A i a bs := ⟨e3, e4⟩
      obtain ⟨q1, q2, q3⟩ := ppF_ok hs (f + 1) (a + 1) (by omega) (by omega)
      have ha2 : a + (n - i) < f := Nat.not_le.mp (fun z => hN (AI_out hA (n - i) a (by omega) ha z))
      have hb2 : bs + (n - 1 - i) < f := Nat.not_le.mp (fun z => e3 (AI_out hA (n - 1 - i) bs (by omega) e2 z))
      rw [ppO, if_pos hc73, hC, nI_clamp (by omega)] at hZ
      refine m_fp92 hO0 hp hf8 hWt0 hAb hn hn1 hnf hW hA hA0 h0 hc73 ha2 hb2 hs hS hI (f + 1) (a + 1) (by omega) (by omega) (by omega) (b_fp134 hO0 hp hf8 hWt0 hAb hn hn1 hnf hW hA hA0 hc73 hS ?_)
      refine ih (i + 1) _ _ _ Z (by omega) (by omega) (by omega) (pT.tu hS (by decide)) (IA_240 hn hI) ⟨ppF w f n A i a (f + 1) (a + 1), by omega, ?_, ?_⟩ (by rw [tu_rw]; exact hZ)
      · rw [Nat.add_sub_cancel]; exact tu_at
      · have e9 : n - (i + 1) = n - 1 - i := by omega
        rw [e9]
        exact q1.1
theorem kG_X0_X0_findsAbove : GoodIn lw_all (wsV RX0 501 RX0 yX0_findsAbove (ws_ yX0_findsAbove cX0_findsAbove 5 (none))) := lw_V q1091 q1093 qs45 q118 q1094
theorem kP_X0_findsAbove : kPar yX0_findsAbove 1 := by decide +kernel
set_option maxHeartbeats 1000000 in
theorem d_findsPlaces (hO0 : PC g M S0 π 32 f nC w) (hp : plA π) (hf8 : f ≤ 80) (hWt0 : ∀ i, i < f → S0 30 i = w (740 + i)) (hAb : ∀ j, j < 4 → fc_ct M 235 j = .ref (fc_B g + (236 + j))) (hn : n ≤ 4) (hn1 : 1 ≤ n) (hnf : n ≤ f) (hW : WI w f) (hA : AI w f n A) (hA0 : ∀ a, a < f → A (80 * 0 + a) = bwQ w f a (-1)) : fc_CX g l yX0_findsPlaces cX0_findsPlaces 6 (some .int) 3 [.ref (fc_B g + 0), .int (nI n)] (cR M S0 U 32 w) (ap_i M S0 U w (ppS w f n A (f + 1) 0 (-1) (S0 240)).1 (fun S2 => S2 240 = (ppO w f n A n 1 (ppS w f n A (f + 1) 0 (-1) (S0 240)).2))) := by
  refine fc_enter (by decide) (Nat.le_of_ble_eq_true rfl) rfl ?_
  refine x_aload_n dX0_findsPlaces_0 rfl ?_
  refine x_iload_n dX0_findsPlaces_1 rfl ?_
  obtain ⟨o2, M2, ⟨ho2, S, hM2, hS0, hI⟩, hC2⟩ := d_findsAbove (l := l) (U := U) hO0 hp hf8 hWt0 hAb hn hn1 hnf hW hA hA0
  subst hM2
  refine x_V1v (P := fun M3 => M3 = cR M S U 32 w) 0 dX0_findsPlaces_2 kG_X0_X0_findsAbove kP_X0_findsAbove (T := TX0) (N := 30) rfl (show 0 < fc_nx M by have := hO0.1.1; omega) (hO0.1.2.2 0 _ rfl) (by omega) (by decide) (Nat.le_of_ble_eq_true rfl) ⟨o2, _, ⟨ho2, rfl⟩, hC2⟩ (fun M3 e9 => ?_)
  subst e9
  have hS : pT S0 S := fun a k h => hS0 a k (by omega)
  have h240 : S 240 = S0 240 := funext fun k => hS0 240 k (by decide)
  refine x_ldcw dX0_findsPlaces_5 q1095 ?_
  rw [show (2147483647 : Int32) = mV (-1) from rfl]
  refine x_istore_n dX0_findsPlaces_8 (by decide) rfl ?_
  refine x_ic0 dX0_findsPlaces_9 ?_
  refine x_istore_n dX0_findsPlaces_10 (by decide) rfl ?_
  refine m_fp11 hO0 hp hf8 hWt0 hAb hn hn1 hnf hW hA hA0 (f + 1) 0 (-1) S _ (by omega) (by omega) hS hI (fun S2 v3 v4 hS2 hI2 e2 => ?_)
  rw [h240] at e2 ⊢
  refine x_ic1 dX0_findsPlaces_69 ?_
  refine x_istore_n dX0_findsPlaces_70 (by decide) rfl ?_
  obtain ⟨a2, k1, k2, k3⟩ := ppS_ok hf8 hW hn hn1 hA (f + 1) 0 (-1) (S0 240) (by omega) (Or.inr ⟨rfl, by omega⟩)
  rw [show mV (ppS w f n A (f + 1) 0 (-1) (S0 240)).1 = (ppS w f n A (f + 1) 0 (-1) (S0 240)).1 from if_neg (ppS_ne hf8 hW hn hn1 hA (f + 1) 0 (-1) (S0 240) (by omega) (Or.inr (by omega)))]
  exact m_fp71 hO0 hp hf8 hWt0 hAb hn hn1 hnf hW hA hA0 n 1 S2 _ _ _ (by omega) (by omega) (by omega) hS2 hI2 ⟨a2, k1, by rw [e2]; exact k2, k3⟩ (by rw [e2])
def ppK (w : Nat → Int32) (f : Nat) (A : Nat → Nat → Int32) (C : Nat → Int32) (x1 x2 : Int32) : Int32 := if (nI 1 ≤ x1 ∧ x1 ≤ nI 4) ∧ x1 ≤ nI f then (if x2 = 0 ∨ (nI 10 ≤ x2 ∧ x2 ≤ nI (9 + x1.toNatClampNeg)) then (ppA w f x1.toNatClampNeg x2 (A x1.toNatClampNeg) C).1 else -1) else -1
theorem pl_min {x : Int32} (hf : f ≤ 80) : (nI 1 ≤ x ∧ x ≤ (if nI f < nI 4 then nI f else nI 4)) ↔ ((nI 1 ≤ x ∧ x ≤ nI 4) ∧ x ≤ nI f) := by
  by_cases c : f < 4
  · rw [if_pos (nI_lt c (by decide))]
    exact ⟨fun z => ⟨⟨z.1, Int32.le_trans z.2 ((nI_leI (by omega) (by decide)).mpr (by omega))⟩, z.2⟩, fun z => ⟨z.1.1, z.2⟩⟩
  · rw [if_neg (nI_nlt (by omega) (by omega))]
    exact ⟨fun z => ⟨z, Int32.le_trans z.2 ((nI_leI (by decide) (by omega)).mpr (by omega))⟩, fun z => z.1⟩
theorem kG_X0_X0_findsPlaces : GoodIn lw_all (wsV RX0 507 RX0 yX0_findsPlaces (ws_ yX0_findsPlaces cX0_findsPlaces 6 (some .int))) := lw_V q1087 q1089 qs44 q118 q1090
theorem kP_X0_findsPlaces : kPar yX0_findsPlaces 1 := by decide +kernel
set_option maxHeartbeats 1000000 in
theorem d_places (hO0 : PC g M S0 π 32 f nC w) (hp : plA π) (hf8 : f ≤ 80) (hWt0 : ∀ i, i < f → S0 30 i = w (740 + i)) (hAb : ∀ j, j < 4 → fc_ct M 235 j = .ref (fc_B g + (236 + j))) (hW : WI w f) {A : Nat → Nat → Int32} (hA : ∀ n, 1 ≤ n → n ≤ 4 → n ≤ f → AI w f n (A n)) (hA0 : ∀ n, 1 ≤ n → n ≤ 4 → ∀ a, a < f → A n (80 * 0 + a) = bwQ w f a (-1)) {x1 x2 : Int32} : fc_CX g l yX0_places cX0_places 4 (some .int) 4 [.ref (fc_B g + 0), .int x1, .int x2] (cR M S0 U 32 w) (ap_i M S0 U w (ppK w f A (S0 240) x1 x2) (fun _ => True)) := by
  refine fc_enter (by decide) (Nat.le_of_ble_eq_true rfl) rfl ?_
  have hO := hO0
  refine x_iload_n dX0_places_0 rfl ?_
  refine x_ic1 dX0_places_1 ?_
  refine x_ic4 dX0_places_2 ?_
  refine x_aload_n dX0_places_3 rfl ?_
  refine k_plan hO dX0_places_4 q410 ?_
  refine k_plF 0 (nI f) hO (Or.inl ⟨rfl, rfl⟩) dX0_places_7 q211 ?_
  refine x_mmin dX0_places_10 q590 (by omega) (Nat.le_of_ble_eq_true rfl) ?_
  refine k_S3i dX0_places_13 kG_X0_X0_isIn kP_X0_isIn (by omega) (by decide) (Nat.le_of_ble_eq_true rfl) d_isIn ?_
  refine x_ifB_eq (tgt := 36) dX0_places_16 (by decide) (fun hc16 => ?_) (fun hc16 => ?_)
  · refine x_icm1 dX0_places_36 ?_
    rw [ppK, if_neg (fun z => hc16 ((pl_min hf8).mpr z))]
    exact x_iret dX0_places_37 rfl rfl ⟨rfl, S0, rfl, fun _ _ _ => rfl, trivial⟩
  · refine x_iload_n dX0_places_19 rfl ?_
    refine x_if_eq (tgt := 38) dX0_places_20 (by decide) (fun hc20 => ?_) (fun hc20 => ?_)
    · have hx9 := (pl_min hf8).mp hc16
      obtain ⟨n, hn1, hn4, rfl⟩ := nI_between (by decide) hx9.1 (by decide)
      have hnf : n ≤ f := (nI_leI (by omega) (by omega)).mp hx9.2
      have hy9 : x2 = 0 ∨ (nI 10 ≤ x2 ∧ x2 ≤ nI (9 + n)) := Or.inl hc20
      have e0 : ppK w f A (S0 240) (nI n) x2 = (ppA w f n x2 (A n) (S0 240)).1 := by
        rw [ppK, if_pos hx9, nI_clamp (by omega), if_pos hy9]
      rw [e0]
      · refine x_aload_n dX0_places_38 rfl ?_
        refine x_iload_n dX0_places_39 rfl ?_
        obtain ⟨o2, M2, ⟨ho2, S, hM2, hS, h240⟩, hC2⟩ := d_findsPlaces (l := l) (U := U) hO0 hp hf8 hWt0 hAb hn4 hn1 hnf hW (hA n hn1 hn4 hnf) (hA0 n hn1 hn4)
        subst hM2
        refine x_V1i (P := fun r3 M3 => r3 = (ppS w f n (A n) (f + 1) 0 (-1) (S0 240)).1 ∧ M3 = cR M S U 32 w) 0 dX0_places_40 kG_X0_X0_findsPlaces kP_X0_findsPlaces (T := TX0) (N := 30) rfl (show 0 < fc_nx M by have := hO0.1.1; omega) (hO0.1.2.2 0 _ rfl) (by omega) (by decide) (Nat.le_of_ble_eq_true rfl) ⟨o2, _, ⟨_, ho2, rfl, rfl⟩, hC2⟩ (fun r3 M3 e9 => ?_)
        obtain ⟨e1, e2⟩ := e9
        subst e1
        subst e2
        refine x_istore_n dX0_places_43 (by decide) rfl ?_
        refine x_iload_n dX0_places_44 rfl ?_
        refine x_if_ne (tgt := 52) dX0_places_45 (by decide) (fun hc45 => ?_) (fun hc45 => ?_)
        · obtain ⟨k, hk1, hk2, rfl⟩ := nI_between (by omega) (hy9.resolve_left hc45) (by decide)
          have hO := PC_pT hO0 hp hS
          · refine x_aload_n dX0_places_52 rfl ?_
            refine k_Fref 23 hO.1 rfl (by decide) rfl dX0_places_53 q421 ?_
            refine x_iload_n dX0_places_56 rfl ?_
            refine x_bipush (v := nI 10) dX0_places_57 (by decide) ?_
            refine x_isubN dX0_places_59 (by omega) ?_
            refine k_ald (a := 240) dX0_places_60 (show 240 < fc_nx M by have := hO.1.1; omega) (hO.1.2.2 240 _ rfl) (by decide) (by omega) (by omega) ?_
            refine x_top (w := (ppO w f n (A n) n 1 (ppS w f n (A n) (f + 1) 0 (-1) (S0 240)).2) ((nI k).toNatClampNeg - 10)) (by rw [nI_clamp (by omega), h240]) ?_
            rw [ppA, ppR, if_neg hc45]
            exact x_iret dX0_places_61 rfl rfl ⟨rfl, S, rfl, hS, trivial⟩
        · refine x_iload_n dX0_places_48 rfl ?_
          refine x_goto (tgt := 61) dX0_places_49 (by decide) ?_
          rw [ppA, ppR, if_pos hc45]
          exact x_iret dX0_places_61 rfl rfl ⟨rfl, S, rfl, hS, trivial⟩
    · refine x_iload_n dX0_places_23 rfl ?_
      refine x_bipush (v := nI 10) dX0_places_24 (by decide) ?_
      refine x_bipush (v := nI 9) dX0_places_26 (by decide) ?_
      refine x_iload_n dX0_places_28 rfl ?_
      refine x_iadd dX0_places_29 ?_
      refine k_S3i dX0_places_30 kG_X0_X0_isIn kP_X0_isIn (by omega) (by decide) (Nat.le_of_ble_eq_true rfl) d_isIn ?_
      refine x_ifB_ne (tgt := 38) dX0_places_33 (by decide) (fun hc33 => ?_) (fun hc33 => ?_)
      · have hx9 := (pl_min hf8).mp hc16
        obtain ⟨n, hn1, hn4, rfl⟩ := nI_between (by decide) hx9.1 (by decide)
        have hnf : n ≤ f := (nI_leI (by omega) (by omega)).mp hx9.2
        have hy9 : x2 = 0 ∨ (nI 10 ≤ x2 ∧ x2 ≤ nI (9 + n)) := Or.inr (by rw [nI_add] at hc33; exact hc33)
        have e0 : ppK w f A (S0 240) (nI n) x2 = (ppA w f n x2 (A n) (S0 240)).1 := by
          rw [ppK, if_pos hx9, nI_clamp (by omega), if_pos hy9]
        rw [e0]
        · refine x_aload_n dX0_places_38 rfl ?_
          refine x_iload_n dX0_places_39 rfl ?_
          obtain ⟨o2, M2, ⟨ho2, S, hM2, hS, h240⟩, hC2⟩ := d_findsPlaces (l := l) (U := U) hO0 hp hf8 hWt0 hAb hn4 hn1 hnf hW (hA n hn1 hn4 hnf) (hA0 n hn1 hn4)
          subst hM2
          refine x_V1i (P := fun r3 M3 => r3 = (ppS w f n (A n) (f + 1) 0 (-1) (S0 240)).1 ∧ M3 = cR M S U 32 w) 0 dX0_places_40 kG_X0_X0_findsPlaces kP_X0_findsPlaces (T := TX0) (N := 30) rfl (show 0 < fc_nx M by have := hO0.1.1; omega) (hO0.1.2.2 0 _ rfl) (by omega) (by decide) (Nat.le_of_ble_eq_true rfl) ⟨o2, _, ⟨_, ho2, rfl, rfl⟩, hC2⟩ (fun r3 M3 e9 => ?_)
          obtain ⟨e1, e2⟩ := e9
          subst e1
          subst e2
          refine x_istore_n dX0_places_43 (by decide) rfl ?_
          refine x_iload_n dX0_places_44 rfl ?_
          refine x_if_ne (tgt := 52) dX0_places_45 (by decide) (fun hc45 => ?_) (fun hc45 => ?_)
          · obtain ⟨k, hk1, hk2, rfl⟩ := nI_between (by omega) (hy9.resolve_left hc45) (by decide)
            have hO := PC_pT hO0 hp hS
            · refine x_aload_n dX0_places_52 rfl ?_
              refine k_Fref 23 hO.1 rfl (by decide) rfl dX0_places_53 q421 ?_
              refine x_iload_n dX0_places_56 rfl ?_
              refine x_bipush (v := nI 10) dX0_places_57 (by decide) ?_
              refine x_isubN dX0_places_59 (by omega) ?_
              refine k_ald (a := 240) dX0_places_60 (show 240 < fc_nx M by have := hO.1.1; omega) (hO.1.2.2 240 _ rfl) (by decide) (by omega) (by omega) ?_
              refine x_top (w := (ppO w f n (A n) n 1 (ppS w f n (A n) (f + 1) 0 (-1) (S0 240)).2) ((nI k).toNatClampNeg - 10)) (by rw [nI_clamp (by omega), h240]) ?_
              rw [ppA, ppR, if_neg hc45]
              exact x_iret dX0_places_61 rfl rfl ⟨rfl, S, rfl, hS, trivial⟩
          · refine x_iload_n dX0_places_48 rfl ?_
            refine x_goto (tgt := 61) dX0_places_49 (by decide) ?_
            rw [ppA, ppR, if_pos hc45]
            exact x_iret dX0_places_61 rfl rfl ⟨rfl, S, rfl, hS, trivial⟩
      · refine x_icm1 dX0_places_36 ?_
        have hx9 := (pl_min hf8).mp hc16
        obtain ⟨n, hn1, hn4, rfl⟩ := nI_between (by decide) hx9.1 (by decide)
        rw [nI_add] at hc33
        rw [ppK, if_pos hx9, nI_clamp (by omega), if_neg (fun z => by rcases z with z | z; exact hc20 z; exact hc33 z)]
        exact x_iret dX0_places_37 rfl rfl ⟨rfl, S0, rfl, fun _ _ _ => rfl, trivial⟩
end T99ZW

set_option maxRecDepth 100000
section T83
variable {g : fc_G} {l : Launch} {M : fc_M} {T : tT} {w : Nat → Int32} {E : tEn}
abbrev tEr : Type := Int32 × Nat
def bindX {α : Type} (R : tRs) (f : tTk × tLs → Except tEr α) : Except tEr α := match R with
  | .error q => .error q
  | .ok q => f q
theorem bindX_e {α : Type} {R : tRs} {f : tTk × tLs → Except tEr α} {q : tEr} (h : R = .error q) : bindX R f = .error q := by rw [h]; rfl
theorem bindX_k {α : Type} {R : tRs} {f : tTk × tLs → Except tEr α} {q : tTk × tLs} (h : R = .ok q) : bindX R f = f q := by rw [h]; rfl
abbrev isLn (c : Int32) : Prop := nI 20 ≤ c ∧ c ≤ nI 21
abbrev tLn : Type := Int32 × Nat × Nat × Nat
def pCo (E : tEn) (q : tTk) : tRs := if q.2.2.1 = nI 20 then pSu E (nxt E q) else .ok (nxt E q, [])
def pWh (E : tEn) (q : tTk) : tRs := if q.2.2.1 = nI 3 then pAn E 9 0 (nxt E q) else .ok (q, [])
def pLn (E : tEn) (q : tTk) (ln n : Nat) : Except tEr (tTk × tLn × tLs) :=
  if isLn q.2.2.1 then (if ln = 16 then .error (nI 3, q.1) else
    bindX (pCo E q) (fun p => bindX (pWh E p.1) (fun p2 => if p2.1.2.2.1 = nI 159 then .ok (nxt E p2.1, (q.2.2.1 - nI 20, n, n + p.2.length, n + p.2.length + p2.2.length), p.2 ++ p2.2) else .error (nI 1, p2.1.1))))
  else .error (nI 1, q.1)
def fl4 (T : tT) (ln : Nat) (x : tLn) : tT := tu (tu (tu (tu T 4 (4 * ln) x.1) 4 (4 * ln + 1) (nI x.2.1)) 4 (4 * ln + 2) (nI x.2.2.1)) 4 (4 * ln + 3) (nI x.2.2.2)
def rB (T B : tT) : Prop := ∀ a k, a ≠ 4 → B a k = T a k
theorem rB_refl : rB T T := fun _ _ _ => rfl
theorem rB_tu {B : tT} {i : Nat} {v : Int32} (h : rB T B) : rB T (tu B 4 i v) := fun a k ha => by
  rw [← h a k ha]
  simp [tu, ha]
def lP (E : tEn) (T : tT) (q : tTk) (n ln : Nat) (R : Except tEr (tTk × tLn × tLs)) (r : Int32) (T2 : tT) : Prop := match R with
  | .error e => r = nI 0 ∧ ∃ B, rB T B ∧ rE B e T2
  | .ok x => r = nI 1 ∧ rO E (fl4 T ln x.2.1) q n 0 1 (x.1, x.2.2) T2
theorem lP_e {q : tTk} {n ln : Nat} {T2 B : tT} {R : Except tEr (tTk × tLn × tLs)} {e : tEr} (h : R = .error e) (hB : rB T B) (h2 : rE B e T2) : lP E T q n ln R (nI 0) T2 := by rw [h]; exact ⟨rfl, B, hB, h2⟩
theorem lP_k {q : tTk} {n ln : Nat} {T2 : tT} {R : Except tEr (tTk × tLn × tLs)} {x : tTk × tLn × tLs} (h : R = .ok x) (h2 : rO E (fl4 T ln x.2.1) q n 0 1 (x.1, x.2.2) T2) : lP E T q n ln R (nI 1) T2 := by rw [h]; exact ⟨rfl, h2⟩
theorem rO.nil {T0 : tT} {q0 q1 : tTk} {n dep j : Nat} {ps : tLs} (h : rO E T0 q0 n dep j (q1, ps) T) : rO E T0 q0 n dep j (q1, ps ++ []) T := by rw [List.append_nil]; exact h
theorem rO.sta {T0 : tT} {q0 q1 : tTk} {n dep j : Nat} {ps : tLs} (h : rO E T0 q0 n dep j (q1, ps) T) (a0 i : Nat) (v : Int32) (h0 : a0 ≠ 0) (h5 : a0 ≠ 5) (h7 : a0 ≠ 7) : rO E (tu T0 a0 i v) q0 n dep j (q1, ps) (tu T a0 i v) := by
  have z : ∀ (X : tT) (a k : Nat), a ≠ a0 → tu X a0 i v a k = X a k := fun X a k ha => if_neg (fun e => ha e.1)
  obtain ⟨a1, ⟨w1, w2, w3, w4⟩, ⟨c1, c2, c3, c4, c5, c6, c7⟩, ⟨d1, d2⟩, r1, r2⟩ := h
  have y0 : (0 : Nat) ≠ a0 := fun e => h0 e.symm
  have y5 : (5 : Nat) ≠ a0 := fun e => h5 e.symm
  have y7 : (7 : Nat) ≠ a0 := fun e => h7 e.symm
  refine ⟨⟨fun a k e5 e0 => ?_, fun k hk => ?_⟩, ⟨(z _ _ _ y0).trans w1, ?_, (z _ _ _ y0).trans w3, w4⟩, ⟨(z _ _ _ y0).trans c1, (z _ _ _ y0).trans c2, (z _ _ _ y0).trans c3, (z _ _ _ y0).trans c4, (z _ _ _ y0).trans c5, (z _ _ _ y0).trans c6, ?_⟩, ⟨fun k hk => ?_, fun i2 p hp => ?_⟩, r1, r2⟩
  · by_cases e : a = a0 ∧ k = i
    · show (if a = a0 ∧ k = i then v else T a k) = (if a = a0 ∧ k = i then v else T0 a k)
      rw [if_pos e, if_pos e]
    · show (if a = a0 ∧ k = i then v else T a k) = (if a = a0 ∧ k = i then v else T0 a k)
      rw [if_neg e, if_neg e]
      exact a1.1 a k e5 e0
  · rw [z _ _ _ y0, z _ _ _ y0]
    exact a1.2 k hk
  · rw [← w2]
    funext k
    exact z _ _ _ y7
  · rw [z _ _ _ y0, z _ _ _ y0]
    exact c7
  · rw [z _ _ _ y5, z _ _ _ y5]
    exact d1 k hk
  · rw [z _ _ _ y5, z _ _ _ y5]
    exact d2 i2 p hp
set_option maxHeartbeats 1000000 in
theorem c_aLine (hM : tw0 + 17 ≤ fc_nx M) {q : tTk} {n dep : Nat} (h : rI E T q n dep) {ln : Nat} (hl : T 0 12 = nI ln) (hln : ln ≤ 16) : fc_CX g l yX6_aLine cX6_aLine 2 (some .boolean) 42 [.ref (fc_B g + tw0)] (tv g M T w) (tv_p g M w (lP E T q n ln (pLn E q ln n))) := by
  refine fc_enter (by decide) (Nat.le_of_ble_eq_true rfl) rfl ?_
  refine x_aload_n dX6_aLine_0 rfl ?_
  refine v_geti 18 hM dX6_aLine_1 (by decide) rfl q1148 ?_
  refine x_top h.tok ?_
  refine x_bipush (v := nI 20) dX6_aLine_4 (by decide) ?_
  refine x_bipush (v := nI 21) dX6_aLine_6 (by decide) ?_
  refine v_S3ie dX6_aLine_8 kG_X6_X6_isIn kP_X6_isIn (by omega) (by decide) (Nat.le_of_ble_eq_true rfl) c_isIn ?_
  refine x_ifB_ne (tgt := 20) dX6_aLine_11 (by decide) (fun hc11 => ?_) (fun hc11 => ?_)
  · refine x_aload_n dX6_aLine_20 rfl ?_
    refine v_geti 12 hM dX6_aLine_21 (by decide) rfl q1142 ?_
    refine x_top hl ?_
    refine x_bipush (v := nI 16) dX6_aLine_24 (by decide) ?_
    refine x_icmpN_ne (tgt := 35) dX6_aLine_26 (by decide) (by omega) (by omega) (fun hc26 => ?_) (fun hc26 => ?_)
    · refine x_aload_n dX6_aLine_35 rfl ?_
      refine v_geti 18 hM dX6_aLine_36 (by decide) rfl q1148 ?_
      refine x_top h.tok ?_
      refine x_bipush (v := nI 20) dX6_aLine_39 (by decide) ?_
      refine x_icmp_ne (tgt := 48) dX6_aLine_41 (by decide) (fun hc41 => ?_) (fun hc41 => ?_)
      · refine x_ic0 dX6_aLine_48 ?_
        refine x_istore_n dX6_aLine_49 (by decide) rfl ?_
        refine x_aload_n dX6_aLine_50 rfl ?_
        refine v_geta 4 hM dX6_aLine_51 (by decide) rfl q1134 ?_
        refine x_ic4 dX6_aLine_54 ?_
        refine x_aload_n dX6_aLine_55 rfl ?_
        refine v_geti 12 hM dX6_aLine_56 (by decide) rfl q1142 ?_
        refine x_top hl ?_
        refine x_imulN dX6_aLine_59 ?_
        refine x_aload_n dX6_aLine_60 rfl ?_
        refine v_geti 18 hM dX6_aLine_61 (by decide) rfl q1148 ?_
        refine x_top h.tok ?_
        refine x_bipush (v := nI 20) dX6_aLine_64 (by decide) ?_
        refine x_isub dX6_aLine_66 ?_
        refine v_iast 4 hM dX6_aLine_67 (by decide) (by decide) rfl rfl (by show _ < 64; omega) ?_
        have h1 := h.sta 4 (4 * ln) (q.2.2.1 - nI 20) (by decide) (by decide) (by decide)
        refine x_aload_n dX6_aLine_68 rfl ?_
        refine x_ic0 dX6_aLine_69 ?_
        refine v_puti 24 hM dX6_aLine_70 (by decide) rfl q1154 rfl rfl rfl ?_
        have h2 := h1.upd (d2 := 0)
        refine x_aload_n dX6_aLine_73 rfl ?_
        have b3 := nxt_lt h2.tk (fun z => absurd (z ▸ hc11 : isLn (nI 0)) (by decide))
        refine y_V0q hM dX6_aLine_74 kG_X6_X6_next0 kP_X6_next0 rfl (by omega) (by decide) (Nat.le_of_ble_eq_true rfl) (c_nextO hM h2 (fun z => absurd (z ▸ hc11 : isLn (nI 0)) (by decide))) (fun T3 h3 => ?_)
        refine x_aload_n dX6_aLine_77 rfl ?_
        refine v_geta 4 hM dX6_aLine_78 (by decide) rfl q1134 ?_
        refine x_ic4 dX6_aLine_81 ?_
        refine x_aload_n dX6_aLine_82 rfl ?_
        refine v_geti 12 hM dX6_aLine_83 (by decide) rfl q1142 ?_
        refine x_top (w := nI ln) ((h3.1.2 12 (Or.inl (by decide))).trans hl) ?_
        refine x_imulN dX6_aLine_86 ?_
        refine x_ic1 dX6_aLine_87 ?_
        refine x_iaddN dX6_aLine_88 ?_
        refine x_aload_n dX6_aLine_89 rfl ?_
        refine v_geti 13 hM dX6_aLine_90 (by decide) rfl q1143 ?_
        refine x_top (show _ = nI n from h3.stp) ?_
        refine v_iast 4 hM dX6_aLine_93 (by decide) (by decide) rfl rfl (by show _ < 64; omega) ?_
        have h4 := h3.sta 4 (4 * ln + 1) (nI n) (by decide) (by decide) (by decide)
        refine x_iload_n dX6_aLine_94 rfl ?_
        refine x_ifN_eq (tgt := 107) dX6_aLine_95 (by decide) (by decide) (fun _ => ?_) (fun hc95 => absurd hc95 (by decide))
        refine x_aload_n dX6_aLine_107 rfl ?_
        refine v_geta 4 hM dX6_aLine_108 (by decide) rfl q1134 ?_
        refine x_ic4 dX6_aLine_111 ?_
        refine x_aload_n dX6_aLine_112 rfl ?_
        refine v_geti 12 hM dX6_aLine_113 (by decide) rfl q1142 ?_
        refine x_top (w := nI ln) ((h4.1.2 12 (Or.inl (by decide))).trans hl) ?_
        refine x_imulN dX6_aLine_116 ?_
        refine x_ic2 dX6_aLine_117 ?_
        refine x_iaddN dX6_aLine_118 ?_
        refine x_aload_n dX6_aLine_119 rfl ?_
        refine v_geti 13 hM dX6_aLine_120 (by decide) rfl q1143 ?_
        refine x_top (show _ = nI (n + ([] : tLs).length) from h4.stp) ?_
        refine v_iast 4 hM dX6_aLine_123 (by decide) (by decide) rfl rfl (by show _ < 64; omega) ?_
        have h5 := h4.sta 4 (4 * ln + 2) (nI (n + ([] : tLs).length)) (by decide) (by decide) (by decide)
        refine x_aload_n dX6_aLine_124 rfl ?_
        refine v_geti 18 hM dX6_aLine_125 (by decide) rfl q1148 ?_
        refine x_top h5.tok ?_
        refine x_ic3 dX6_aLine_128 ?_
        refine x_icmp_ne (tgt := 145) dX6_aLine_129 (by decide) (fun hc129 => ?_) (fun hc129 => ?_)
        · refine x_aload_n dX6_aLine_145 rfl ?_
          refine v_geta 4 hM dX6_aLine_146 (by decide) rfl q1134 ?_
          refine x_ic4 dX6_aLine_149 ?_
          refine x_aload_n dX6_aLine_150 rfl ?_
          refine v_geti 12 hM dX6_aLine_151 (by decide) rfl q1142 ?_
          refine x_top (w := nI ln) ((h5.1.2 12 (Or.inl (by decide))).trans hl) ?_
          refine x_imulN dX6_aLine_154 ?_
          refine x_ic3 dX6_aLine_155 ?_
          refine x_iaddN dX6_aLine_156 ?_
          refine x_aload_n dX6_aLine_157 rfl ?_
          refine v_geti 13 hM dX6_aLine_158 (by decide) rfl q1143 ?_
          refine x_top (show _ = nI (n + ([] : tLs).length + ([] : tLs).length) from h5.stp) ?_
          refine v_iast 4 hM dX6_aLine_161 (by decide) (by decide) rfl rfl (by show _ < 64; omega) ?_
          have h6 := h5.sta 4 (4 * ln + 3) (nI (n + ([] : tLs).length + ([] : tLs).length)) (by decide) (by decide) (by decide)
          refine x_aload_n dX6_aLine_162 rfl ?_
          refine x_sipush (v := nI 159) dX6_aLine_163 (by decide) ?_
          refine y_V1p hM dX6_aLine_166 kG_X6_X6_need kP_X6_need rfl (by omega) (by decide) (Nat.le_of_ble_eq_true rfl) (c_need hM h6 (by decide)) (fun r7 T7 hp7 => ?_)
          rcases hp7 with ⟨hR7, hr7, hE7⟩ | ⟨hR7, hr7, h7⟩
          · subst hr7
            exact x_iret dX6_aLine_169 rfl (by rfl) (tv_pe (lP_e ((if_pos hc11).trans ((if_neg hc26).trans ((bindX_k (if_neg hc41 : pCo E q = .ok (nxt E q, []))).trans ((bindX_k (if_neg hc129 : pWh E (nxt E q) = .ok (nxt E q, []))).trans (if_neg hR7))))) (rB_tu (rB_tu (rB_tu (rB_tu rB_refl)))) (hE7)))
          · subst hr7
            exact x_iret dX6_aLine_169 rfl (by rfl) (tv_pe (lP_k ((if_pos hc11).trans ((if_neg hc26).trans ((bindX_k (if_neg hc41 : pCo E q = .ok (nxt E q, []))).trans ((bindX_k (if_neg hc129 : pWh E (nxt E q) = .ok (nxt E q, []))).trans (if_pos hR7))))) (h7.ge (by omega))))
        · refine x_aload_n dX6_aLine_132 rfl ?_
          have b6 := nxt_lt h5.tk (by rw [hc129]; decide)
          refine y_V0q hM dX6_aLine_133 kG_X6_X6_next0 kP_X6_next0 rfl (by omega) (by decide) (Nat.le_of_ble_eq_true rfl) (c_nextO hM h5 (by rw [hc129]; decide)) (fun T6 h6 => ?_)
          refine x_aload_n dX6_aLine_136 rfl ?_
          refine y_V0p hM dX6_aLine_137 kG_X6_X6_any kP_X6_any rfl (by omega) (by decide) (Nat.le_of_ble_eq_true rfl) (c_anyT hM (Nat.zero_le 8) h6.self) (fun r7 T7 hp7 => ?_)
          rcases rP_or hp7 with ⟨e7, hR7, hr7, hE7⟩ | ⟨q7, ps7, hR7, hr7, hO7⟩
          · subst hr7
            refine x_ifN_ne (tgt := 145) dX6_aLine_140 (by decide) (by decide) (fun hc140 => absurd hc140 (by decide)) (fun _ => ?_)
            refine x_ic0 dX6_aLine_143 ?_
            exact x_iret dX6_aLine_144 rfl (by rfl) (tv_pe (lP_e ((if_pos hc11).trans ((if_neg hc26).trans ((bindX_k (if_neg hc41 : pCo E q = .ok (nxt E q, []))).trans (bindX_e ((if_pos hc129).trans hR7))))) (rB_tu (rB_tu (rB_tu rB_refl))) (rE.comp h6.1 hE7)))
          · subst hr7
            have b7 := hO7.bd
            have h7 : rO E _ q n 0 _ (q7, ps7) T7 := h6.comp hO7
            refine x_ifN_ne (tgt := 145) dX6_aLine_140 (by decide) (by decide) (fun _ => ?_) (fun hc140 => absurd hc140 (by decide))
            refine x_aload_n dX6_aLine_145 rfl ?_
            refine v_geta 4 hM dX6_aLine_146 (by decide) rfl q1134 ?_
            refine x_ic4 dX6_aLine_149 ?_
            refine x_aload_n dX6_aLine_150 rfl ?_
            refine v_geti 12 hM dX6_aLine_151 (by decide) rfl q1142 ?_
            refine x_top (w := nI ln) ((h7.1.2 12 (Or.inl (by decide))).trans hl) ?_
            refine x_imulN dX6_aLine_154 ?_
            refine x_ic3 dX6_aLine_155 ?_
            refine x_iaddN dX6_aLine_156 ?_
            refine x_aload_n dX6_aLine_157 rfl ?_
            refine v_geti 13 hM dX6_aLine_158 (by decide) rfl q1143 ?_
            refine x_top (show _ = nI (n + ([] : tLs).length + (ps7 : tLs).length) from by rw [h7.stp]; exact congrArg nI (by simp [Nat.add_assoc])) ?_
            refine v_iast 4 hM dX6_aLine_161 (by decide) (by decide) rfl rfl (by show _ < 64; omega) ?_
            have h8 := h7.sta 4 (4 * ln + 3) (nI (n + ([] : tLs).length + (ps7 : tLs).length)) (by decide) (by decide) (by decide)
            refine x_aload_n dX6_aLine_162 rfl ?_
            refine x_sipush (v := nI 159) dX6_aLine_163 (by decide) ?_
            refine y_V1p hM dX6_aLine_166 kG_X6_X6_need kP_X6_need rfl (by omega) (by decide) (Nat.le_of_ble_eq_true rfl) (c_need hM h8 (by decide)) (fun r9 T9 hp9 => ?_)
            rcases hp9 with ⟨hR9, hr9, hE9⟩ | ⟨hR9, hr9, h9⟩
            · subst hr9
              exact x_iret dX6_aLine_169 rfl (by rfl) (tv_pe (lP_e ((if_pos hc11).trans ((if_neg hc26).trans ((bindX_k (if_neg hc41 : pCo E q = .ok (nxt E q, []))).trans ((bindX_k ((if_pos hc129).trans hR7 : pWh E (nxt E q) = .ok (q7, ps7))).trans (if_neg hR9))))) (rB_tu (rB_tu (rB_tu (rB_tu rB_refl)))) (hE9)))
            · subst hr9
              exact x_iret dX6_aLine_169 rfl (by rfl) (tv_pe (lP_k ((if_pos hc11).trans ((if_neg hc26).trans ((bindX_k (if_neg hc41 : pCo E q = .ok (nxt E q, []))).trans ((bindX_k ((if_pos hc129).trans hR7 : pWh E (nxt E q) = .ok (q7, ps7))).trans (if_pos hR9))))) (h9.ge (by omega))))
      · refine x_ic1 dX6_aLine_44 ?_
        refine x_goto (tgt := 49) dX6_aLine_45 (by decide) ?_
        refine x_istore_n dX6_aLine_49 (by decide) rfl ?_
        refine x_aload_n dX6_aLine_50 rfl ?_
        refine v_geta 4 hM dX6_aLine_51 (by decide) rfl q1134 ?_
        refine x_ic4 dX6_aLine_54 ?_
        refine x_aload_n dX6_aLine_55 rfl ?_
        refine v_geti 12 hM dX6_aLine_56 (by decide) rfl q1142 ?_
        refine x_top hl ?_
        refine x_imulN dX6_aLine_59 ?_
        refine x_aload_n dX6_aLine_60 rfl ?_
        refine v_geti 18 hM dX6_aLine_61 (by decide) rfl q1148 ?_
        refine x_top h.tok ?_
        refine x_bipush (v := nI 20) dX6_aLine_64 (by decide) ?_
        refine x_isub dX6_aLine_66 ?_
        refine v_iast 4 hM dX6_aLine_67 (by decide) (by decide) rfl rfl (by show _ < 64; omega) ?_
        have h1 := h.sta 4 (4 * ln) (q.2.2.1 - nI 20) (by decide) (by decide) (by decide)
        refine x_aload_n dX6_aLine_68 rfl ?_
        refine x_ic0 dX6_aLine_69 ?_
        refine v_puti 24 hM dX6_aLine_70 (by decide) rfl q1154 rfl rfl rfl ?_
        have h2 := h1.upd (d2 := 0)
        refine x_aload_n dX6_aLine_73 rfl ?_
        have b3 := nxt_lt h2.tk (fun z => absurd (z ▸ hc11 : isLn (nI 0)) (by decide))
        refine y_V0q hM dX6_aLine_74 kG_X6_X6_next0 kP_X6_next0 rfl (by omega) (by decide) (Nat.le_of_ble_eq_true rfl) (c_nextO hM h2 (fun z => absurd (z ▸ hc11 : isLn (nI 0)) (by decide))) (fun T3 h3 => ?_)
        refine x_aload_n dX6_aLine_77 rfl ?_
        refine v_geta 4 hM dX6_aLine_78 (by decide) rfl q1134 ?_
        refine x_ic4 dX6_aLine_81 ?_
        refine x_aload_n dX6_aLine_82 rfl ?_
        refine v_geti 12 hM dX6_aLine_83 (by decide) rfl q1142 ?_
        refine x_top (w := nI ln) ((h3.1.2 12 (Or.inl (by decide))).trans hl) ?_
        refine x_imulN dX6_aLine_86 ?_
        refine x_ic1 dX6_aLine_87 ?_
        refine x_iaddN dX6_aLine_88 ?_
        refine x_aload_n dX6_aLine_89 rfl ?_
        refine v_geti 13 hM dX6_aLine_90 (by decide) rfl q1143 ?_
        refine x_top (show _ = nI n from h3.stp) ?_
        refine v_iast 4 hM dX6_aLine_93 (by decide) (by decide) rfl rfl (by show _ < 64; omega) ?_
        have h4 := h3.sta 4 (4 * ln + 1) (nI n) (by decide) (by decide) (by decide)
        refine x_iload_n dX6_aLine_94 rfl ?_
        refine x_ifN_eq (tgt := 107) dX6_aLine_95 (by decide) (by decide) (fun hc95 => absurd hc95 (by decide)) (fun _ => ?_)
        refine x_aload_n dX6_aLine_98 rfl ?_
        refine y_V0p hM dX6_aLine_99 kG_X6_X6_sumUp kP_X6_sumUp rfl (by omega) (by decide) (Nat.le_of_ble_eq_true rfl) (c_sumUp hM h4.self) (fun r5 T5 hp5 => ?_)
        rcases rP_or hp5 with ⟨e5, hR5, hr5, hE5⟩ | ⟨q5, ps5, hR5, hr5, hO5⟩
        · subst hr5
          refine x_ifN_ne (tgt := 107) dX6_aLine_102 (by decide) (by decide) (fun hc102 => absurd hc102 (by decide)) (fun _ => ?_)
          refine x_ic0 dX6_aLine_105 ?_
          exact x_iret dX6_aLine_106 rfl (by rfl) (tv_pe (lP_e ((if_pos hc11).trans ((if_neg hc26).trans (bindX_e ((if_pos hc41).trans hR5)))) (rB_tu (rB_tu rB_refl)) (rE.comp h4.1 hE5)))
        · subst hr5
          have b5 := hO5.bd
          have h5 : rO E _ q n 0 _ (q5, ps5) T5 := h4.comp hO5
          refine x_ifN_ne (tgt := 107) dX6_aLine_102 (by decide) (by decide) (fun _ => ?_) (fun hc102 => absurd hc102 (by decide))
          refine x_aload_n dX6_aLine_107 rfl ?_
          refine v_geta 4 hM dX6_aLine_108 (by decide) rfl q1134 ?_
          refine x_ic4 dX6_aLine_111 ?_
          refine x_aload_n dX6_aLine_112 rfl ?_
          refine v_geti 12 hM dX6_aLine_113 (by decide) rfl q1142 ?_
          refine x_top (w := nI ln) ((h5.1.2 12 (Or.inl (by decide))).trans hl) ?_
          refine x_imulN dX6_aLine_116 ?_
          refine x_ic2 dX6_aLine_117 ?_
          refine x_iaddN dX6_aLine_118 ?_
          refine x_aload_n dX6_aLine_119 rfl ?_
          refine v_geti 13 hM dX6_aLine_120 (by decide) rfl q1143 ?_
          refine x_top (show _ = nI (n + (ps5 : tLs).length) from h5.stp) ?_
          refine v_iast 4 hM dX6_aLine_123 (by decide) (by decide) rfl rfl (by show _ < 64; omega) ?_
          have h6 := h5.sta 4 (4 * ln + 2) (nI (n + (ps5 : tLs).length)) (by decide) (by decide) (by decide)
          refine x_aload_n dX6_aLine_124 rfl ?_
          refine v_geti 18 hM dX6_aLine_125 (by decide) rfl q1148 ?_
          refine x_top h6.tok ?_
          refine x_ic3 dX6_aLine_128 ?_
          refine x_icmp_ne (tgt := 145) dX6_aLine_129 (by decide) (fun hc129 => ?_) (fun hc129 => ?_)
          · refine x_aload_n dX6_aLine_145 rfl ?_
            refine v_geta 4 hM dX6_aLine_146 (by decide) rfl q1134 ?_
            refine x_ic4 dX6_aLine_149 ?_
            refine x_aload_n dX6_aLine_150 rfl ?_
            refine v_geti 12 hM dX6_aLine_151 (by decide) rfl q1142 ?_
            refine x_top (w := nI ln) ((h6.1.2 12 (Or.inl (by decide))).trans hl) ?_
            refine x_imulN dX6_aLine_154 ?_
            refine x_ic3 dX6_aLine_155 ?_
            refine x_iaddN dX6_aLine_156 ?_
            refine x_aload_n dX6_aLine_157 rfl ?_
            refine v_geti 13 hM dX6_aLine_158 (by decide) rfl q1143 ?_
            refine x_top (show _ = nI (n + (ps5 : tLs).length + ([] : tLs).length) from h6.stp) ?_
            refine v_iast 4 hM dX6_aLine_161 (by decide) (by decide) rfl rfl (by show _ < 64; omega) ?_
            have h7 := h6.sta 4 (4 * ln + 3) (nI (n + (ps5 : tLs).length + ([] : tLs).length)) (by decide) (by decide) (by decide)
            refine x_aload_n dX6_aLine_162 rfl ?_
            refine x_sipush (v := nI 159) dX6_aLine_163 (by decide) ?_
            refine y_V1p hM dX6_aLine_166 kG_X6_X6_need kP_X6_need rfl (by omega) (by decide) (Nat.le_of_ble_eq_true rfl) (c_need hM h7.nil (by decide)) (fun r8 T8 hp8 => ?_)
            rcases hp8 with ⟨hR8, hr8, hE8⟩ | ⟨hR8, hr8, h8⟩
            · subst hr8
              exact x_iret dX6_aLine_169 rfl (by rfl) (tv_pe (lP_e ((if_pos hc11).trans ((if_neg hc26).trans ((bindX_k ((if_pos hc41).trans hR5 : pCo E q = .ok (q5, ps5))).trans ((bindX_k (if_neg hc129 : pWh E (q5) = .ok (q5, []))).trans (if_neg hR8))))) (rB_tu (rB_tu (rB_tu (rB_tu rB_refl)))) (hE8)))
            · subst hr8
              exact x_iret dX6_aLine_169 rfl (by rfl) (tv_pe (lP_k ((if_pos hc11).trans ((if_neg hc26).trans ((bindX_k ((if_pos hc41).trans hR5 : pCo E q = .ok (q5, ps5))).trans ((bindX_k (if_neg hc129 : pWh E (q5) = .ok (q5, []))).trans (if_pos hR8))))) (h8.ge (by omega))))
          · refine x_aload_n dX6_aLine_132 rfl ?_
            have b7 := nxt_lt h6.tk (by rw [hc129]; decide)
            refine y_V0q hM dX6_aLine_133 kG_X6_X6_next0 kP_X6_next0 rfl (by omega) (by decide) (Nat.le_of_ble_eq_true rfl) (c_nextO hM h6 (by rw [hc129]; decide)) (fun T7 h7 => ?_)
            refine x_aload_n dX6_aLine_136 rfl ?_
            refine y_V0p hM dX6_aLine_137 kG_X6_X6_any kP_X6_any rfl (by omega) (by decide) (Nat.le_of_ble_eq_true rfl) (c_anyT hM (Nat.zero_le 8) h7.self) (fun r8 T8 hp8 => ?_)
            rcases rP_or hp8 with ⟨e8, hR8, hr8, hE8⟩ | ⟨q8, ps8, hR8, hr8, hO8⟩
            · subst hr8
              refine x_ifN_ne (tgt := 145) dX6_aLine_140 (by decide) (by decide) (fun hc140 => absurd hc140 (by decide)) (fun _ => ?_)
              refine x_ic0 dX6_aLine_143 ?_
              exact x_iret dX6_aLine_144 rfl (by rfl) (tv_pe (lP_e ((if_pos hc11).trans ((if_neg hc26).trans ((bindX_k ((if_pos hc41).trans hR5 : pCo E q = .ok (q5, ps5))).trans (bindX_e ((if_pos hc129).trans hR8))))) (rB_tu (rB_tu (rB_tu rB_refl))) (rE.comp h7.1 hE8)))
            · subst hr8
              have b8 := hO8.bd
              have h8 : rO E _ q n 0 _ (q8, ps5 ++ ps8) T8 := h7.comp hO8
              refine x_ifN_ne (tgt := 145) dX6_aLine_140 (by decide) (by decide) (fun _ => ?_) (fun hc140 => absurd hc140 (by decide))
              refine x_aload_n dX6_aLine_145 rfl ?_
              refine v_geta 4 hM dX6_aLine_146 (by decide) rfl q1134 ?_
              refine x_ic4 dX6_aLine_149 ?_
              refine x_aload_n dX6_aLine_150 rfl ?_
              refine v_geti 12 hM dX6_aLine_151 (by decide) rfl q1142 ?_
              refine x_top (w := nI ln) ((h8.1.2 12 (Or.inl (by decide))).trans hl) ?_
              refine x_imulN dX6_aLine_154 ?_
              refine x_ic3 dX6_aLine_155 ?_
              refine x_iaddN dX6_aLine_156 ?_
              refine x_aload_n dX6_aLine_157 rfl ?_
              refine v_geti 13 hM dX6_aLine_158 (by decide) rfl q1143 ?_
              refine x_top (show _ = nI (n + (ps5 : tLs).length + (ps8 : tLs).length) from by rw [h8.stp]; exact congrArg nI (by simp [Nat.add_assoc])) ?_
              refine v_iast 4 hM dX6_aLine_161 (by decide) (by decide) rfl rfl (by show _ < 64; omega) ?_
              have h9 := h8.sta 4 (4 * ln + 3) (nI (n + (ps5 : tLs).length + (ps8 : tLs).length)) (by decide) (by decide) (by decide)
              refine x_aload_n dX6_aLine_162 rfl ?_
              refine x_sipush (v := nI 159) dX6_aLine_163 (by decide) ?_
              refine y_V1p hM dX6_aLine_166 kG_X6_X6_need kP_X6_need rfl (by omega) (by decide) (Nat.le_of_ble_eq_true rfl) (c_need hM h9 (by decide)) (fun r10 T10 hp10 => ?_)
              rcases hp10 with ⟨hR10, hr10, hE10⟩ | ⟨hR10, hr10, h10⟩
              · subst hr10
                exact x_iret dX6_aLine_169 rfl (by rfl) (tv_pe (lP_e ((if_pos hc11).trans ((if_neg hc26).trans ((bindX_k ((if_pos hc41).trans hR5 : pCo E q = .ok (q5, ps5))).trans ((bindX_k ((if_pos hc129).trans hR8 : pWh E (q5) = .ok (q8, ps8))).trans (if_neg hR10))))) (rB_tu (rB_tu (rB_tu (rB_tu rB_refl)))) (hE10)))
              · subst hr10
                exact x_iret dX6_aLine_169 rfl (by rfl) (tv_pe (lP_k ((if_pos hc11).trans ((if_neg hc26).trans ((bindX_k ((if_pos hc41).trans hR5 : pCo E q = .ok (q5, ps5))).trans ((bindX_k ((if_pos hc129).trans hR8 : pWh E (q5) = .ok (q8, ps8))).trans (if_pos hR10))))) (h10.ge (by omega))))
    · refine x_aload_n dX6_aLine_29 rfl ?_
      refine x_ic3 dX6_aLine_30 ?_
      refine y_V1p hM dX6_aLine_31 kG_X6_X6_bad kP_X6_bad rfl (by omega) (by decide) (Nat.le_of_ble_eq_true rfl) (c_badO hM h) (fun r1 T1 hp1 => ?_)
      obtain ⟨hr1, hE1⟩ := hp1
      subst hr1
      exact x_iret dX6_aLine_34 rfl (by rfl) (tv_pe (lP_e ((if_pos hc11).trans (if_pos hc26)) rB_refl hE1))
  · refine x_aload_n dX6_aLine_14 rfl ?_
    refine x_ic1 dX6_aLine_15 ?_
    refine y_V1p hM dX6_aLine_16 kG_X6_X6_bad kP_X6_bad rfl (by omega) (by decide) (Nat.le_of_ble_eq_true rfl) (c_badO hM h) (fun r1 T1 hp1 => ?_)
    obtain ⟨hr1, hE1⟩ := hp1
    subst hr1
    exact x_iret dX6_aLine_19 rfl (by rfl) (tv_pe (lP_e (if_neg hc11) rB_refl hE1))
end T83

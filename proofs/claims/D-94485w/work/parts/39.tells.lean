set_option maxRecDepth 100000
section T39
variable {g : fc_G} {l : Launch} {M : fc_M} {T : tT} {w : Nat → Int32}
theorem plS_agree {w : Nat → Int32} {k i top : Nat} {fx fx' pl pl' : Nat → Int32} (hok : okS w k i top) (h : ∀ j, j < top → pl j = pl' j) (hx : ∀ s, 0 < s → s < 11 → fx s = fx' s) : ∀ j, j < tpS w k i top → plS w k fx i pl top j = plS w k fx' i pl' top j := by
  obtain ⟨-, hok⟩ := hok
  intro j hj
  unfold plS
  unfold tpS at hj
  rcases hok with ⟨h1, h2⟩ | ⟨h1, h2, h3⟩ | ⟨h1, h2⟩ | ⟨h1, h2⟩
  · have a1 : stS w k i < 13 := by omega
    simp only [if_pos a1] at hj ⊢
    by_cases e : j = top
    · subst e
      rw [up_s, up_s]
      split
      · rfl
      · exact hx _ (by omega) h1
    · rw [up_n e, up_n e]
      exact h j (by omega)
  · have a1 : ¬ stS w k i < 13 := by omega
    simp only [if_neg a1, if_pos h1] at hj ⊢
    by_cases e : j = top - 1
    · subst e
      rw [up_s, up_s, h _ (by omega)]
    · rw [up_n e, up_n e]
      exact h j (by omega)
  · have a1 : ¬ stS w k i < 13 := by omega
    have a2 : ¬ stS w k i = 16 := by omega
    simp only [if_neg a1, if_neg a2, if_pos h1] at hj ⊢
    by_cases e : j = top - 1
    · subst e
      rw [up_s, up_s, h _ (by omega)]
    · rw [up_n e, up_n e]
      exact h j (by omega)
  · have a1 : ¬ stS w k i < 13 := by rcases h1 with h | h | h | h | h | h | h | h <;> omega
    have a2 : ¬ stS w k i = 16 := by rcases h1 with h | h | h | h | h | h | h | h <;> omega
    have a3 : ¬ stS w k i = 20 := by rcases h1 with h | h | h | h | h | h | h | h <;> omega
    simp only [if_neg a1, if_neg a2, if_neg a3] at hj ⊢
    by_cases e : j = top - 1 - 1
    · subst e
      rw [up_s, up_s, h _ (by omega), h (top - 1) (by omega)]
    · rw [up_n e, up_n e]
      exact h j (by omega)
theorem evW_agree {w : Nat → Int32} {k e : Nat} {fx fx' : Nat → Int32} (hx : ∀ s, 0 < s → s < 11 → fx s = fx' s) : ∀ (q i : Nat) (pl pl' : Nat → Int32) (top : Nat), i ≤ e → e < i + q → (∀ j, j < top → pl j = pl' j) → vR w k e q i top → evW w k fx e q i pl top 0 = evW w k fx' e q i pl' top 0
  | 0, i, _, _, _, h1, h2, _, _ => absurd h2 (by omega)
  | q + 1, i, pl, pl', top, h1, h2, h, hv => by
    simp only [evW]
    by_cases hi : i < e
    · rw [if_pos hi, if_pos hi]
      obtain ⟨hok, -, hv2⟩ := hv.1 hi
      exact evW_agree hx q (i + 1) _ _ _ (by omega) (by omega) (plS_agree hok h hx) hv2
    · rw [if_neg hi, if_neg hi]
      exact h 0 (by rw [hv.2 hi]; decide)
/-- what the code from b to e comes to -/
def cdW (w : Nat → Int32) (k : Nat) (fx : Nat → Int32) (b e : Nat) : Int32 := evW w k fx e (e + 1) b (fun _ => 0) 0 0
def Sim (T T2 : tT) : Prop := ∀ a k, a ≠ 8 → a ≠ 9 → ¬ (a = 0 ∧ k = 26) → T2 a k = T a k
theorem Sim.rf {T : tT} : Sim T T := fun _ _ _ _ _ => rfl
theorem Sim.tr {T T2 T3 : tT} (h : Sim T T2) (h2 : Sim T2 T3) : Sim T T3 := fun a k h8 h9 h0 => (h2 a k h8 h9 h0).trans (h a k h8 h9 h0)
theorem Sim.t8 {T T2 : tT} {pl : Nat → Int32} (h : Sim T T2) : Sim T (t8 T2 pl) := fun a k h8 h9 h0 => (if_neg h8).trans (h a k h8 h9 h0)
theorem Sim.t9 {T T2 : tT} {i : Nat} {v : Int32} (h : Sim T T2) : Sim T (tu T2 9 i v) := fun a k h8 h9 h0 => (if_neg (fun z => h9 z.1)).trans (h a k h8 h9 h0)
theorem Sim.c {T T2 : tT} {v : Int32} (h : Sim T T2) : Sim T (tu T2 0 26 v) := fun a k h8 h9 h0 => (if_neg (fun z => h0 z)).trans (h a k h8 h9 h0)
set_option maxHeartbeats 1000000 in
theorem c_comesTo (hM : tw0 + 17 ≤ fc_nx M) {b e kk : Nat} (hk : kk < 3) (he : e ≤ 410) {x y : Int32} (hx : x = nI b) (hy : y = nI e) (hbe : b ≤ e) (hv : vR w kk e (e + 1) b 0) {fx : Nat → Int32} (hfx : ∀ s, 0 < s → s < 11 → T 9 s = fx s) : fc_CX g l yX6_comesTo cX6_comesTo 8 (some .int) 2 [.ref (fc_B g + tw0), .int (nI kk), .int x, .int y] (tv g M T w) (tv_i g M (fun r T2 w2 => w = w2 ∧ (∃ pl2, T2 = t8 T pl2) ∧ r = cdW w kk fx b e)) := by
  refine fc_enter (by decide) (Nat.le_of_ble_eq_true rfl) rfl ?_
  subst hx
  subst hy
  refine x_ic0 dX6_comesTo_0 ?_
  refine x_istore dX6_comesTo_1 (by decide) rfl ?_
  refine x_iload_n dX6_comesTo_3 rfl ?_
  refine x_istore dX6_comesTo_4 (by decide) rfl ?_
  refine x_eqM (congrArg (fun z => tv g M z w) t8_self.symm) ?_
  refine x_mono ?_ (l_comesTo (b := 0) hM hk he (e + 1) b (T 8) 0 none none hbe (by omega) (by omega) hv)
  rintro o M2 ⟨r, rfl, T2, w2, rfl, rfl, h, rfl⟩
  exact tv_ip ⟨rfl, h, evW_agree hfx _ _ _ _ _ hbe (by omega) (fun j hj => absurd hj (by omega)) hv⟩
def fcW (w : Nat → Int32) (p c n : Nat) : Nat → Int32 := fun s => match s with
  | 1 => if w (820 + 8 * p + 1) < w (10 + 20 * c + 0) then w (10 + 20 * c + 0) - w (820 + 8 * p + 1) else w (820 + 8 * p + 1) - w (10 + 20 * c + 0)
  | 2 => if w (10 + 20 * c + 1) = 0 then nI 0 else if w (10 + 20 * c + 1) = wayW w p then (if (w (820 + 8 * p + 1) - w (10 + 20 * c + 0)) * w (10 + 20 * c + 1) < 0 then nI 0 else nI 1) else nI 0
  | 3 => if w (10 + 20 * c + 1) = 0 then nI 0 else if w (10 + 20 * c + 1) = wayW w p then nI 0 else nI 1
  | 4 => nI (cnt (rdp w 2 (nI c)) n)
  | 5 => nI (cnt (rdp w 1 (nI c)) n)
  | 6 => if w (10 + 20 * c + 2) = 0 then nI 1 else nI 0
  | 7 => if wayW w p = nI 1 then nI 1 else nI 0
  | 8 => w (820 + 8 * p + 1)
  | 9 => w 3 - w (820 + 8 * p + 0)
  | _ => nI c
def frW (w : Nat → Int32) (r i : Nat) : Nat := (w (1360 + (16 * r + i))).toNatClampNeg
def miW (w : Nat → Int32) (r i : Nat) : Nat := (w (1410 + (16 * r + i))).toNatClampNeg
def toW (w : Nat → Int32) (r i : Nat) : Nat := (w (1460 + (16 * r + i))).toNatClampNeg
/-- the lines of rule r from i on: never (none), or a cost -/
def lnW (w : Nat → Int32) (r : Nat) (fx : Nat → Int32) (nl : Nat) : Nat → Nat → Option Int32
  | 0, _ => some (nI 0)
  | q + 1, i => if i < nl then (if ¬ toW w r i = miW w r i ∧ ¬ cdW w r fx (miW w r i) (toW w r i) = nI 1 then lnW w r fx nl q (i + 1) else if w (1310 + (16 * r + i)) = nI 1 then none else some (cdW w r fx (frW w r i) (miW w r i))) else some (nI 0)
/-- rule r stands in order in the row -/
def RV (w : Nat → Int32) (r nl : Nat) : Prop := w (1300 + r) = nI nl ∧ nl ≤ 16 ∧ ∀ i, i < nl → w (1360 + (16 * r + i)) = nI (frW w r i) ∧ w (1410 + (16 * r + i)) = nI (miW w r i) ∧ w (1460 + (16 * r + i)) = nI (toW w r i) ∧ frW w r i ≤ miW w r i ∧ miW w r i ≤ toW w r i ∧ toW w r i ≤ 410 ∧ (¬ toW w r i = miW w r i → vR w r (toW w r i) (toW w r i + 1) (miW w r i) 0) ∧ (¬ w (1310 + (16 * r + i)) = nI 1 → vR w r (miW w r i) (miW w r i + 1) (frW w r i) 0)
def tlW (w : Nat → Int32) (p c n r nl : Nat) : Option Int32 := lnW w r (fcW w p c n) nl (nl + 1) 0
def tlQ (T : tT) (w : Nat → Int32) (o : Option Int32) (r : Int32) (T2 : tT) (w2 : Nat → Int32) : Prop := w = w2 ∧ Sim T T2 ∧ (match o with
  | none => r = nI 0
  | some v => r = nI 1 ∧ T2 0 26 = v)
theorem kG_X6_X6_comesTo : GoodIn lw_all (wsV RX6 288 RX6 yX6_comesTo (ws_ yX6_comesTo cX6_comesTo 8 (some .int))) := lw_V q1460 q1462 qs88 q124 q1463
theorem kP_X6_comesTo : kPar yX6_comesTo 3 := by decide +kernel
set_option maxHeartbeats 1000000 in
theorem l_tells {n0 s0 : Nat} (hM : tw0 + 17 ≤ fc_nx M) {rr nl : Nat} (hr : rr < 3) (hRV : RV w rr nl) {T0 : tT} {fx : Nat → Int32} {v1 v2 : Option Value} {x4 : Int32} : ∀ (k i : Nat) (T : tT) (v6 : Option Value), Sim T0 T → (∀ s, 0 < s → s < 11 → T 9 s = fx s) → T 0 26 = nI 0 → i ≤ nl → nl < i + k → fc_X g l yX6_tells cX6_tells 7 (some .boolean) 3 n0 s0 (tv g M T w) 213 [some (.ref (fc_B g + tw0)), v1, v2, some (.int (nI rr)), some (.int x4), some (.int (nI i)), v6] [] (tv_i g M (tlQ T0 w (lnW w rr fx nl k i))) := by
  intro k
  induction k with
  | zero => intro i T v6 hS hfx hcs h1 h2; omega
  | succ k ih =>
    intro i T v6 hS hfx hcs h1 h2
    have hnl := hRV.2.1
    refine x_iload dX6_tells_213 rfl ?_
    refine x_aload_n dX6_tells_215 rfl ?_
    refine v_geta 0 hM dX6_tells_216 (by decide) rfl q1130 ?_
    refine x_sipush (v := nI 1300) dX6_tells_219 (by decide) ?_
    refine x_iload_n dX6_tells_222 rfl ?_
    refine x_iaddN dX6_tells_223 ?_
    refine v_wld hM dX6_tells_224 rfl (by omega) ?_
    refine x_top hRV.1 ?_
    refine x_icmpN_ge (tgt := 352) dX6_tells_225 (by decide) (by omega) (by omega) (fun hc225 => ?_) (fun hc225 => ?_)
    · refine x_ic1 dX6_tells_352 ?_
      refine x_iret dX6_tells_353 rfl rfl (tv_ip ⟨rfl, hS, ?_⟩)
      rw [lnW, if_neg (Nat.not_lt.mpr hc225)]
      exact ⟨rfl, hcs⟩
    · refine x_bipush (v := nI 16) dX6_tells_228 (by decide) ?_
      refine x_iload_n dX6_tells_230 rfl ?_
      refine x_imulN dX6_tells_231 ?_
      refine x_iload dX6_tells_232 rfl ?_
      refine x_iaddN dX6_tells_234 ?_
      refine x_istore dX6_tells_235 (by decide) rfl ?_
      obtain ⟨h1a, h2a, h3a, h4, h5, h6, h7, h8⟩ := hRV.2.2 i hc225
      refine x_aload_n dX6_tells_237 rfl ?_
      refine v_geta 0 hM dX6_tells_238 (by decide) rfl q1130 ?_
      refine x_sipush (v := nI 1460) dX6_tells_241 (by decide) ?_
      refine x_iload dX6_tells_244 rfl ?_
      refine x_iaddN dX6_tells_246 ?_
      refine v_wld hM dX6_tells_247 rfl (by omega) ?_
      refine x_top h3a ?_
      refine x_aload_n dX6_tells_248 rfl ?_
      refine v_geta 0 hM dX6_tells_249 (by decide) rfl q1130 ?_
      refine x_sipush (v := nI 1410) dX6_tells_252 (by decide) ?_
      refine x_iload dX6_tells_255 rfl ?_
      refine x_iaddN dX6_tells_257 ?_
      refine v_wld hM dX6_tells_258 rfl (by omega) ?_
      refine x_top h2a ?_
      refine x_icmpN_eq (tgt := 296) dX6_tells_259 (by decide) (by omega) (by omega) (fun hc259 => ?_) (fun hc259 => ?_)
      · refine x_aload_n dX6_tells_296 rfl ?_
        refine v_geta 0 hM dX6_tells_297 (by decide) rfl q1130 ?_
        refine x_sipush (v := nI 1310) dX6_tells_300 (by decide) ?_
        refine x_iload dX6_tells_303 rfl ?_
        refine x_iaddN dX6_tells_305 ?_
        refine v_wld hM dX6_tells_306 rfl (by omega) ?_
        refine x_ic1 dX6_tells_307 ?_
        refine x_icmp_ne (tgt := 313) dX6_tells_308 (by decide) (fun hc308 => ?_) (fun hc308 => ?_)
        · refine x_aload_n dX6_tells_313 rfl ?_
          refine x_aload_n dX6_tells_314 rfl ?_
          refine x_iload_n dX6_tells_315 rfl ?_
          refine x_aload_n dX6_tells_316 rfl ?_
          refine v_geta 0 hM dX6_tells_317 (by decide) rfl q1130 ?_
          refine x_sipush (v := nI 1360) dX6_tells_320 (by decide) ?_
          refine x_iload dX6_tells_323 rfl ?_
          refine x_iaddN dX6_tells_325 ?_
          refine v_wld hM dX6_tells_326 rfl (by omega) ?_
          refine x_top h1a ?_
          refine x_aload_n dX6_tells_327 rfl ?_
          refine v_geta 0 hM dX6_tells_328 (by decide) rfl q1130 ?_
          refine x_sipush (v := nI 1410) dX6_tells_331 (by decide) ?_
          refine x_iload dX6_tells_334 rfl ?_
          refine x_iaddN dX6_tells_336 ?_
          refine v_wld hM dX6_tells_337 rfl (by omega) ?_
          refine x_top h2a ?_
          refine v_V3i hM dX6_tells_338 kG_X6_X6_comesTo kP_X6_comesTo rfl (by omega) (by decide) (Nat.le_of_ble_eq_true rfl) (c_comesTo hM hr (by omega) rfl rfl h4 (h8 hc308) hfx) (fun r1 T1 w1 q1 => ?_)
          obtain ⟨rfl, ⟨pl2, rfl⟩, rfl⟩ := q1
          refine v_puti 26 hM dX6_tells_341 (by decide) rfl q1156 rfl rfl rfl ?_
          refine x_ic1 dX6_tells_344 ?_
          refine x_iret dX6_tells_345 rfl rfl (tv_ip ⟨rfl, by first | exact Sim.c (Sim.t8 hS) | exact Sim.c (Sim.t8 (Sim.t8 hS)), ?_⟩)
          rw [lnW, if_pos hc225, if_neg (by first | exact fun z => z.1 hc259 | exact fun z => z.2 hc290), if_neg hc308]
          exact ⟨rfl, rfl⟩
        · refine x_ic0 dX6_tells_311 ?_
          refine x_iret dX6_tells_312 rfl rfl (tv_ip ⟨rfl, by first | exact hS | exact Sim.t8 hS, ?_⟩)
          rw [lnW, if_pos hc225, if_neg (by first | exact fun z => z.1 hc259 | exact fun z => z.2 hc290), if_pos hc308]
      · refine x_aload_n dX6_tells_262 rfl ?_
        refine x_iload_n dX6_tells_263 rfl ?_
        refine x_aload_n dX6_tells_264 rfl ?_
        refine v_geta 0 hM dX6_tells_265 (by decide) rfl q1130 ?_
        refine x_sipush (v := nI 1410) dX6_tells_268 (by decide) ?_
        refine x_iload dX6_tells_271 rfl ?_
        refine x_iaddN dX6_tells_273 ?_
        refine v_wld hM dX6_tells_274 rfl (by omega) ?_
        refine x_top h2a ?_
        refine x_aload_n dX6_tells_275 rfl ?_
        refine v_geta 0 hM dX6_tells_276 (by decide) rfl q1130 ?_
        refine x_sipush (v := nI 1460) dX6_tells_279 (by decide) ?_
        refine x_iload dX6_tells_282 rfl ?_
        refine x_iaddN dX6_tells_284 ?_
        refine v_wld hM dX6_tells_285 rfl (by omega) ?_
        refine x_top h3a ?_
        refine v_V3i hM dX6_tells_286 kG_X6_X6_comesTo kP_X6_comesTo rfl (by omega) (by decide) (Nat.le_of_ble_eq_true rfl) (c_comesTo hM hr h6 rfl rfl h5 (h7 (fun z => hc259 (by rw [z]))) hfx) (fun r1 T1 w1 q1 => ?_)
        obtain ⟨rfl, ⟨pl, rfl⟩, rfl⟩ := q1
        refine x_ic1 dX6_tells_289 ?_
        refine x_icmp_eq (tgt := 296) dX6_tells_290 (by decide) (fun hc290 => ?_) (fun hc290 => ?_)
        · refine x_aload_n dX6_tells_296 rfl ?_
          refine v_geta 0 hM dX6_tells_297 (by decide) rfl q1130 ?_
          refine x_sipush (v := nI 1310) dX6_tells_300 (by decide) ?_
          refine x_iload dX6_tells_303 rfl ?_
          refine x_iaddN dX6_tells_305 ?_
          refine v_wld hM dX6_tells_306 rfl (by omega) ?_
          refine x_ic1 dX6_tells_307 ?_
          refine x_icmp_ne (tgt := 313) dX6_tells_308 (by decide) (fun hc308 => ?_) (fun hc308 => ?_)
          · refine x_aload_n dX6_tells_313 rfl ?_
            refine x_aload_n dX6_tells_314 rfl ?_
            refine x_iload_n dX6_tells_315 rfl ?_
            refine x_aload_n dX6_tells_316 rfl ?_
            refine v_geta 0 hM dX6_tells_317 (by decide) rfl q1130 ?_
            refine x_sipush (v := nI 1360) dX6_tells_320 (by decide) ?_
            refine x_iload dX6_tells_323 rfl ?_
            refine x_iaddN dX6_tells_325 ?_
            refine v_wld hM dX6_tells_326 rfl (by omega) ?_
            refine x_top h1a ?_
            refine x_aload_n dX6_tells_327 rfl ?_
            refine v_geta 0 hM dX6_tells_328 (by decide) rfl q1130 ?_
            refine x_sipush (v := nI 1410) dX6_tells_331 (by decide) ?_
            refine x_iload dX6_tells_334 rfl ?_
            refine x_iaddN dX6_tells_336 ?_
            refine v_wld hM dX6_tells_337 rfl (by omega) ?_
            refine x_top h2a ?_
            refine v_V3i hM dX6_tells_338 kG_X6_X6_comesTo kP_X6_comesTo rfl (by omega) (by decide) (Nat.le_of_ble_eq_true rfl) (c_comesTo hM hr (by omega) rfl rfl h4 (h8 hc308) hfx) (fun r1 T1 w1 q1 => ?_)
            obtain ⟨rfl, ⟨pl2, rfl⟩, rfl⟩ := q1
            refine v_puti 26 hM dX6_tells_341 (by decide) rfl q1156 rfl rfl rfl ?_
            refine x_ic1 dX6_tells_344 ?_
            refine x_iret dX6_tells_345 rfl rfl (tv_ip ⟨rfl, by first | exact Sim.c (Sim.t8 hS) | exact Sim.c (Sim.t8 (Sim.t8 hS)), ?_⟩)
            rw [lnW, if_pos hc225, if_neg (by first | exact fun z => z.1 hc259 | exact fun z => z.2 hc290), if_neg hc308]
            exact ⟨rfl, rfl⟩
          · refine x_ic0 dX6_tells_311 ?_
            refine x_iret dX6_tells_312 rfl rfl (tv_ip ⟨rfl, by first | exact hS | exact Sim.t8 hS, ?_⟩)
            rw [lnW, if_pos hc225, if_neg (by first | exact fun z => z.1 hc259 | exact fun z => z.2 hc290), if_pos hc308]
        · refine x_goto (tgt := 346) dX6_tells_293 (by decide) ?_
          refine x_iincN (n := 1) dX6_tells_346 (by decide) rfl (by decide) rfl ?_
          refine x_goto (tgt := 213) dX6_tells_349 (by decide) ?_
          rw [show lnW w rr fx nl (k + 1) i = lnW w rr fx nl k (i + 1) by rw [lnW, if_pos hc225, if_pos ⟨fun z => hc259 z, hc290⟩]]
          exact ih (i + 1) _ _ (Sim.t8 hS) hfx hcs (by omega) (by omega)
theorem fx_s {T : tT} {k : Nat} {v : Int32} {fx : Nat → Int32} (h : ∀ s, 0 < s → s < k → T 9 s = fx s) (e : v = fx k) : ∀ s, 0 < s → s < k + 1 → tu T 9 k v 9 s = fx s := by
  intro s h0 h1
  by_cases hs : s = k
  · subst hs; rw [← e]; simp [tu]
  · have : ¬ (9 = 9 ∧ s = k) := fun z => hs z.2
    rw [tu, if_neg this]
    exact h s h0 (by omega)
set_option maxHeartbeats 1000000 in
theorem b_tells163 {n0 s0 : Nat} (hM : tw0 + 17 ≤ fc_nx M) {rr nl pp c n : Nat} (hr : rr < 3) (hRV : RV w rr nl) {T0 : tT} (hS : Sim T0 T) (hn : n ≤ 60) (hw : w 2 = nI n) (hp : pp < 60) (hc : c < 4) {v5 v6 : Option Value} {x7 : Int32} (e7 : x7 = fcW w pp c n 7) (hfx : ∀ s, 0 < s → s < 7 → T 9 s = fcW w pp c n s) : fc_X g l yX6_tells cX6_tells 7 (some .boolean) 3 n0 s0 (tv g M T w) 163 [some (.ref (fc_B g + tw0)), some (.int (nI pp)), some (.int (nI c)), some (.int (nI rr)), some (.int (w (10 + 20 * c + 1))), v5, v6] [.int x7, .int (nI 7), .ref (fc_B g + (tw0 + 9))] (tv_i g M (tlQ T0 w (tlW w pp c n rr nl))) := by
  refine v_iast 9 hM dX6_tells_163 (by decide) (by decide) rfl rfl (by show _ < 11; omega) ?_
  refine x_aload_n dX6_tells_164 rfl ?_
  refine v_geta 9 hM dX6_tells_165 (by decide) rfl q1139 ?_
  refine x_bipush (v := nI 8) dX6_tells_168 (by decide) ?_
  refine x_aload_n dX6_tells_170 rfl ?_
  refine x_iload_n dX6_tells_171 rfl ?_
  refine x_ic1 dX6_tells_172 ?_
  refine v_V2ie hM dX6_tells_173 kG_X6_X6_own kP_X6_own rfl (by omega) (by decide) (Nat.le_of_ble_eq_true rfl) (c_own hM rfl rfl (by omega)) ?_
  refine v_iast 9 hM dX6_tells_176 (by decide) (by decide) rfl rfl (by show _ < 11; omega) ?_
  refine x_aload_n dX6_tells_177 rfl ?_
  refine v_geta 9 hM dX6_tells_178 (by decide) rfl q1139 ?_
  refine x_bipush (v := nI 9) dX6_tells_181 (by decide) ?_
  refine x_aload_n dX6_tells_183 rfl ?_
  refine v_geta 0 hM dX6_tells_184 (by decide) rfl q1130 ?_
  refine x_ic3 dX6_tells_187 ?_
  refine v_wld hM dX6_tells_188 rfl (by omega) ?_
  refine x_aload_n dX6_tells_189 rfl ?_
  refine x_iload_n dX6_tells_190 rfl ?_
  refine x_ic0 dX6_tells_191 ?_
  refine v_V2ie hM dX6_tells_192 kG_X6_X6_own kP_X6_own rfl (by omega) (by decide) (Nat.le_of_ble_eq_true rfl) (c_own hM rfl rfl (by omega)) ?_
  refine x_isub dX6_tells_195 ?_
  refine v_iast 9 hM dX6_tells_196 (by decide) (by decide) rfl rfl (by show _ < 11; omega) ?_
  refine x_aload_n dX6_tells_197 rfl ?_
  refine v_geta 9 hM dX6_tells_198 (by decide) rfl q1139 ?_
  refine x_bipush (v := nI 10) dX6_tells_201 (by decide) ?_
  refine x_iload_n dX6_tells_203 rfl ?_
  refine v_iast 9 hM dX6_tells_204 (by decide) (by decide) rfl rfl (by show _ < 11; omega) ?_
  refine x_aload_n dX6_tells_205 rfl ?_
  refine x_ic0 dX6_tells_206 ?_
  refine v_puti 26 hM dX6_tells_207 (by decide) rfl q1156 rfl rfl rfl ?_
  refine x_ic0 dX6_tells_210 ?_
  refine x_istore dX6_tells_211 (by decide) rfl ?_
  refine l_tells hM hr hRV (nl + 1) 0 _ _ (Sim.c (Sim.t9 (Sim.t9 (Sim.t9 (Sim.t9 hS))))) ?_ rfl (by omega) (by omega)
  exact fun s q0 q1 => fx_s (fx_s (fx_s (fx_s hfx e7) rfl) rfl) rfl s q0 q1
set_option maxHeartbeats 1000000 in
theorem b_tells142 {n0 s0 : Nat} (hM : tw0 + 17 ≤ fc_nx M) {rr nl pp c n : Nat} (hr : rr < 3) (hRV : RV w rr nl) {T0 : tT} (hS : Sim T0 T) (hn : n ≤ 60) (hw : w 2 = nI n) (hp : pp < 60) (hc : c < 4) {v5 v6 : Option Value} {x6 : Int32} (e6 : x6 = fcW w pp c n 6) (hfx : ∀ s, 0 < s → s < 6 → T 9 s = fcW w pp c n s) : fc_X g l yX6_tells cX6_tells 7 (some .boolean) 3 n0 s0 (tv g M T w) 142 [some (.ref (fc_B g + tw0)), some (.int (nI pp)), some (.int (nI c)), some (.int (nI rr)), some (.int (w (10 + 20 * c + 1))), v5, v6] [.int x6, .int (nI 6), .ref (fc_B g + (tw0 + 9))] (tv_i g M (tlQ T0 w (tlW w pp c n rr nl))) := by
  refine v_iast 9 hM dX6_tells_142 (by decide) (by decide) rfl rfl (by show _ < 11; omega) ?_
  refine x_aload_n dX6_tells_143 rfl ?_
  refine v_geta 9 hM dX6_tells_144 (by decide) rfl q1139 ?_
  refine x_bipush (v := nI 7) dX6_tells_147 (by decide) ?_
  refine x_aload_n dX6_tells_149 rfl ?_
  refine x_iload_n dX6_tells_150 rfl ?_
  refine v_V1ie hM dX6_tells_151 kG_X6_X6_wayOf kP_X6_wayOf rfl (by omega) (by decide) (Nat.le_of_ble_eq_true rfl) (c_wayW hM rfl (by omega)) ?_
  refine x_ic1 dX6_tells_154 ?_
  refine x_icmp_ne (tgt := 162) dX6_tells_155 (by decide) (fun hc155 => ?_) (fun hc155 => ?_)
  · refine x_ic0 dX6_tells_162 ?_
    exact b_tells163 hM hr hRV (Sim.t9 hS) hn hw hp hc (by simp only [fcW]; rw [if_neg hc155]) (fx_s hfx e6)
  · refine x_ic1 dX6_tells_158 ?_
    refine x_goto (tgt := 163) dX6_tells_159 (by decide) ?_
    exact b_tells163 hM hr hRV (Sim.t9 hS) hn hw hp hc (by simp only [fcW]; rw [if_pos hc155]) (fx_s hfx e6)
theorem kG_X6_X6_given : GoodIn lw_all (wsV RX6 283 RX6 yX6_given (ws_ yX6_given cX6_given 4 (some .int))) := lw_V q1456 q1458 qs87 q124 q1459
theorem kP_X6_given : kPar yX6_given 1 := by decide +kernel
set_option maxHeartbeats 1000000 in
theorem b_tells99 {n0 s0 : Nat} (hM : tw0 + 17 ≤ fc_nx M) {rr nl pp c n : Nat} (hr : rr < 3) (hRV : RV w rr nl) {T0 : tT} (hS : Sim T0 T) (hn : n ≤ 60) (hw : w 2 = nI n) (hp : pp < 60) (hc : c < 4) {v5 v6 : Option Value} {x3 : Int32} (e3 : x3 = fcW w pp c n 3) (hfx : ∀ s, 0 < s → s < 3 → T 9 s = fcW w pp c n s) : fc_X g l yX6_tells cX6_tells 7 (some .boolean) 3 n0 s0 (tv g M T w) 99 [some (.ref (fc_B g + tw0)), some (.int (nI pp)), some (.int (nI c)), some (.int (nI rr)), some (.int (w (10 + 20 * c + 1))), v5, v6] [.int x3, .int (nI 3), .ref (fc_B g + (tw0 + 9))] (tv_i g M (tlQ T0 w (tlW w pp c n rr nl))) := by
  refine v_iast 9 hM dX6_tells_99 (by decide) (by decide) rfl rfl (by show _ < 11; omega) ?_
  refine x_aload_n dX6_tells_100 rfl ?_
  refine v_geta 9 hM dX6_tells_101 (by decide) rfl q1139 ?_
  refine x_ic4 dX6_tells_104 ?_
  refine x_aload_n dX6_tells_105 rfl ?_
  refine x_iload_n dX6_tells_106 rfl ?_
  refine v_V1ie hM dX6_tells_107 kG_X6_X6_riding kP_X6_riding rfl (by omega) (by decide) (Nat.le_of_ble_eq_true rfl) (c_riding hM hn hw) ?_
  refine v_iast 9 hM dX6_tells_110 (by decide) (by decide) rfl rfl (by show _ < 11; omega) ?_
  refine x_aload_n dX6_tells_111 rfl ?_
  refine v_geta 9 hM dX6_tells_112 (by decide) rfl q1139 ?_
  refine x_ic5 dX6_tells_115 ?_
  refine x_aload_n dX6_tells_116 rfl ?_
  refine x_iload_n dX6_tells_117 rfl ?_
  refine v_V1ie hM dX6_tells_118 kG_X6_X6_given kP_X6_given rfl (by omega) (by decide) (Nat.le_of_ble_eq_true rfl) (c_given hM hn hw) ?_
  refine v_iast 9 hM dX6_tells_121 (by decide) (by decide) rfl rfl (by show _ < 11; omega) ?_
  refine x_aload_n dX6_tells_122 rfl ?_
  refine v_geta 9 hM dX6_tells_123 (by decide) rfl q1139 ?_
  refine x_bipush (v := nI 6) dX6_tells_126 (by decide) ?_
  refine x_aload_n dX6_tells_128 rfl ?_
  refine x_iload_n dX6_tells_129 rfl ?_
  refine x_ic2 dX6_tells_130 ?_
  refine v_V2ie hM dX6_tells_131 kG_X6_X6_ofCar kP_X6_ofCar rfl (by omega) (by decide) (Nat.le_of_ble_eq_true rfl) (c_ofCar hM rfl rfl (by omega)) ?_
  refine x_if_ne (tgt := 141) dX6_tells_134 (by decide) (fun hc134 => ?_) (fun hc134 => ?_)
  · refine x_ic0 dX6_tells_141 ?_
    exact b_tells142 hM hr hRV (Sim.t9 (Sim.t9 (Sim.t9 hS))) hn hw hp hc (by simp only [fcW]; rw [if_neg hc134]) (fx_s (fx_s (fx_s hfx e3) rfl) rfl)
  · refine x_ic1 dX6_tells_137 ?_
    refine x_goto (tgt := 142) dX6_tells_138 (by decide) ?_
    exact b_tells142 hM hr hRV (Sim.t9 (Sim.t9 (Sim.t9 hS))) hn hw hp hc (by simp only [fcW]; rw [if_pos hc134]) (fx_s (fx_s (fx_s hfx e3) rfl) rfl)
set_option maxHeartbeats 1000000 in
theorem b_tells73 {n0 s0 : Nat} (hM : tw0 + 17 ≤ fc_nx M) {rr nl pp c n : Nat} (hr : rr < 3) (hRV : RV w rr nl) {T0 : tT} (hS : Sim T0 T) (hn : n ≤ 60) (hw : w 2 = nI n) (hp : pp < 60) (hc : c < 4) {v5 v6 : Option Value} {x2 : Int32} (e2 : x2 = fcW w pp c n 2) (hfx : ∀ s, 0 < s → s < 2 → T 9 s = fcW w pp c n s) : fc_X g l yX6_tells cX6_tells 7 (some .boolean) 3 n0 s0 (tv g M T w) 73 [some (.ref (fc_B g + tw0)), some (.int (nI pp)), some (.int (nI c)), some (.int (nI rr)), some (.int (w (10 + 20 * c + 1))), v5, v6] [.int x2, .int (nI 2), .ref (fc_B g + (tw0 + 9))] (tv_i g M (tlQ T0 w (tlW w pp c n rr nl))) := by
  refine v_iast 9 hM dX6_tells_73 (by decide) (by decide) rfl rfl (by show _ < 11; omega) ?_
  refine x_aload_n dX6_tells_74 rfl ?_
  refine v_geta 9 hM dX6_tells_75 (by decide) rfl q1139 ?_
  refine x_ic3 dX6_tells_78 ?_
  refine x_iload dX6_tells_79 rfl ?_
  refine x_if_eq (tgt := 98) dX6_tells_81 (by decide) (fun hc81 => ?_) (fun hc81 => ?_)
  · refine x_ic0 dX6_tells_98 ?_
    exact b_tells99 hM hr hRV (Sim.t9 hS) hn hw hp hc (by simp only [fcW]; rw [if_pos hc81]) (fx_s hfx e2)
  · refine x_iload dX6_tells_84 rfl ?_
    refine x_aload_n dX6_tells_86 rfl ?_
    refine x_iload_n dX6_tells_87 rfl ?_
    refine v_V1ie hM dX6_tells_88 kG_X6_X6_wayOf kP_X6_wayOf rfl (by omega) (by decide) (Nat.le_of_ble_eq_true rfl) (c_wayW hM rfl (by omega)) ?_
    refine x_icmp_eq (tgt := 98) dX6_tells_91 (by decide) (fun hc91 => ?_) (fun hc91 => ?_)
    · refine x_ic0 dX6_tells_98 ?_
      exact b_tells99 hM hr hRV (Sim.t9 hS) hn hw hp hc (by simp only [fcW]; rw [if_neg hc81, if_pos hc91]) (fx_s hfx e2)
    · refine x_ic1 dX6_tells_94 ?_
      refine x_goto (tgt := 99) dX6_tells_95 (by decide) ?_
      exact b_tells99 hM hr hRV (Sim.t9 hS) hn hw hp hc (by simp only [fcW]; rw [if_neg hc81, if_neg hc91]) (fx_s hfx e2)
theorem kG_X6_X6_apart : GoodIn lw_all (va_wsS RX6 274 yX6_apart (ws_ yX6_apart cX6_apart 2 (some .int))) := lw_S q1445 q1446 q124 q1447
theorem kP_X6_apart : kPar yX6_apart 2 := by decide +kernel
set_option maxHeartbeats 1000000 in
theorem c_tells (hM : tw0 + 17 ≤ fc_nx M) {rr nl pp c n : Nat} (hr : rr < 3) (hRV : RV w rr nl) (hn : n ≤ 60) (hw : w 2 = nI n) (hp : pp < 60) (hc : c < 4) {x y z : Int32} (hx : x = nI pp) (hy : y = nI c) (hz : z = nI rr) : fc_CX g l yX6_tells cX6_tells 7 (some .boolean) 3 [.ref (fc_B g + tw0), .int x, .int y, .int z] (tv g M T w) (tv_i g M (tlQ T w (tlW w pp c n rr nl))) := by
  refine fc_enter (by decide) (Nat.le_of_ble_eq_true rfl) rfl ?_
  subst hx
  subst hy
  subst hz
  refine x_aload_n dX6_tells_0 rfl ?_
  refine x_iload_n dX6_tells_1 rfl ?_
  refine x_ic1 dX6_tells_2 ?_
  refine v_V2ie hM dX6_tells_3 kG_X6_X6_ofCar kP_X6_ofCar rfl (by omega) (by decide) (Nat.le_of_ble_eq_true rfl) (c_ofCar hM rfl rfl (by omega)) ?_
  refine x_istore dX6_tells_6 (by decide) rfl ?_
  refine x_aload_n dX6_tells_8 rfl ?_
  refine v_geta 9 hM dX6_tells_9 (by decide) rfl q1139 ?_
  refine x_ic1 dX6_tells_12 ?_
  refine x_aload_n dX6_tells_13 rfl ?_
  refine x_iload_n dX6_tells_14 rfl ?_
  refine x_ic0 dX6_tells_15 ?_
  refine v_V2ie hM dX6_tells_16 kG_X6_X6_ofCar kP_X6_ofCar rfl (by omega) (by decide) (Nat.le_of_ble_eq_true rfl) (c_ofCar hM rfl rfl (by omega)) ?_
  refine x_aload_n dX6_tells_19 rfl ?_
  refine x_iload_n dX6_tells_20 rfl ?_
  refine x_ic1 dX6_tells_21 ?_
  refine v_V2ie hM dX6_tells_22 kG_X6_X6_own kP_X6_own rfl (by omega) (by decide) (Nat.le_of_ble_eq_true rfl) (c_own hM rfl rfl (by omega)) ?_
  refine v_S2ie dX6_tells_25 kG_X6_X6_apart kP_X6_apart (by omega) (by decide) (Nat.le_of_ble_eq_true rfl) c_apart ?_
  refine v_iast 9 hM dX6_tells_28 (by decide) (by decide) rfl rfl (by show _ < 11; omega) ?_
  refine x_aload_n dX6_tells_29 rfl ?_
  refine v_geta 9 hM dX6_tells_30 (by decide) rfl q1139 ?_
  refine x_ic2 dX6_tells_33 ?_
  refine x_iload dX6_tells_34 rfl ?_
  refine x_if_eq (tgt := 72) dX6_tells_36 (by decide) (fun hc36 => ?_) (fun hc36 => ?_)
  · refine x_ic0 dX6_tells_72 ?_
    exact b_tells73 hM hr hRV (Sim.t9 Sim.rf) hn hw hp hc (by simp only [fcW]; rw [if_pos hc36]) (fun s q0 q1 => by (have e : s = 1 := by omega); subst e; rfl)
  · refine x_iload dX6_tells_39 rfl ?_
    refine x_aload_n dX6_tells_41 rfl ?_
    refine x_iload_n dX6_tells_42 rfl ?_
    refine v_V1ie hM dX6_tells_43 kG_X6_X6_wayOf kP_X6_wayOf rfl (by omega) (by decide) (Nat.le_of_ble_eq_true rfl) (c_wayW hM rfl (by omega)) ?_
    refine x_icmp_ne (tgt := 72) dX6_tells_46 (by decide) (fun hc46 => ?_) (fun hc46 => ?_)
    · refine x_ic0 dX6_tells_72 ?_
      exact b_tells73 hM hr hRV (Sim.t9 Sim.rf) hn hw hp hc (by simp only [fcW]; rw [if_neg hc36, if_neg hc46]) (fun s q0 q1 => by (have e : s = 1 := by omega); subst e; rfl)
    · refine x_aload_n dX6_tells_49 rfl ?_
      refine x_iload_n dX6_tells_50 rfl ?_
      refine x_ic1 dX6_tells_51 ?_
      refine v_V2ie hM dX6_tells_52 kG_X6_X6_own kP_X6_own rfl (by omega) (by decide) (Nat.le_of_ble_eq_true rfl) (c_own hM rfl rfl (by omega)) ?_
      refine x_aload_n dX6_tells_55 rfl ?_
      refine x_iload_n dX6_tells_56 rfl ?_
      refine x_ic0 dX6_tells_57 ?_
      refine v_V2ie hM dX6_tells_58 kG_X6_X6_ofCar kP_X6_ofCar rfl (by omega) (by decide) (Nat.le_of_ble_eq_true rfl) (c_ofCar hM rfl rfl (by omega)) ?_
      refine x_isub dX6_tells_61 ?_
      refine x_iload dX6_tells_62 rfl ?_
      refine x_imul dX6_tells_64 ?_
      refine x_if_lt (tgt := 72) dX6_tells_65 (by decide) (fun hc65 => ?_) (fun hc65 => ?_)
      · refine x_ic0 dX6_tells_72 ?_
        exact b_tells73 hM hr hRV (Sim.t9 Sim.rf) hn hw hp hc (by simp only [fcW]; rw [if_neg hc36, if_pos hc46, if_pos hc65]) (fun s q0 q1 => by (have e : s = 1 := by omega); subst e; rfl)
      · refine x_ic1 dX6_tells_68 ?_
        refine x_goto (tgt := 73) dX6_tells_69 (by decide) ?_
        exact b_tells73 hM hr hRV (Sim.t9 Sim.rf) hn hw hp hc (by simp only [fcW]; rw [if_neg hc36, if_pos hc46, if_neg hc65]) (fun s q0 q1 => by (have e : s = 1 := by omega); subst e; rfl)
end T39

set_option maxRecDepth 100000
/-! ===== the row of a new tower ===== -/
section P22
variable {v w : Nat → Int32} {T : tT} {F nc ln : Nat}
theorem ztL_at {x : Nat} : ∀ (f i : Nat) (w : Nat → Int32), 1300 < i + f → i ≤ x → x < 1300 → ztL f i w x = nI 0
  | 0, i, w, h, h1, h2 => by omega
  | f + 1, i, w, h, h1, h2 => by
    have lo : ∀ (f i : Nat) (w : Nat → Int32), x < i → ztL f i w x = w x := by
      intro f
      induction f with
      | zero => intro i w _; rfl
      | succ f ih =>
        intro i w hx
        rw [ztL]
        by_cases e : i < 1300
        · rw [if_pos e, ih _ _ (by omega), up_n (by omega)]
        · rw [if_neg e]
    rw [ztL, if_pos (by omega)]
    by_cases e : x = i
    · subst e; rw [lo _ _ _ (by omega), up_s]
    · exact ztL_at f (i + 1) _ (by omega) (by omega) h2
theorem ztL_hi {x : Nat} (hx : 1300 ≤ x) : ∀ (f i : Nat) (w : Nat → Int32), ztL f i w x = w x
  | 0, _, _ => rfl
  | f + 1, i, w => by
    rw [ztL]
    by_cases e : i < 1300
    · rw [if_pos e, ztL_hi hx f, up_n (by omega)]
    · rw [if_neg e]
theorem kcL_at {c x : Nat} : ∀ (f i : Nat) (w : Nat → Int32), 4 < i + f → kcL T c f i w x = if 10 + 20 * c + (6 + i) ≤ x ∧ x < 10 + 20 * c + 10 then T 6 (10 * c + (x - (10 + 20 * c + 6))) else w x
  | 0, i, w, h => by rw [if_neg (by omega)]; rfl
  | f + 1, i, w, h => by
    rw [kcL]
    by_cases e : i < 4
    · rw [if_pos e, kcL_at f (i + 1) _ (by omega)]
      by_cases e2 : 10 + 20 * c + (6 + (i + 1)) ≤ x ∧ x < 10 + 20 * c + 10
      · rw [if_pos e2, if_pos (by omega)]
      · rw [if_neg e2]
        by_cases e3 : x = 10 + 20 * c + (6 + i)
        · subst e3; rw [up_s, if_pos (by omega), show 10 + 20 * c + (6 + i) - (10 + 20 * c + 6) = i by omega]
        · rw [up_n e3, if_neg (by omega)]
    · rw [if_neg e, if_neg (by omega)]
theorem kdL_at {c x : Nat} : ∀ (f i : Nat) (w : Nat → Int32), F < i + f → kdL T c F f i w x = if 100 + 80 * c + i ≤ x ∧ x < 100 + 80 * c + F then (if T 10 (80 * c + (x - (100 + 80 * c))) = 0 then nI 1 else nI 0) else w x
  | 0, i, w, h => by rw [if_neg (by omega)]; rfl
  | f + 1, i, w, h => by
    rw [kdL]
    by_cases e : i < F
    · rw [if_pos e, kdL_at f (i + 1) _ (by omega)]
      by_cases e2 : 100 + 80 * c + (i + 1) ≤ x ∧ x < 100 + 80 * c + F
      · rw [if_pos e2, if_pos (show 100 + 80 * c + i ≤ x ∧ x < 100 + 80 * c + F by omega)]
      · rw [if_neg e2]
        by_cases e3 : x = 100 + 80 * c + i
        · subst e3; rw [up_s, if_pos (show 100 + 80 * c + i ≤ 100 + 80 * c + i ∧ 100 + 80 * c + i < 100 + 80 * c + F by omega), show 100 + 80 * c + i - (100 + 80 * c) = i by omega]
        · rw [up_n e3, if_neg (show ¬ (100 + 80 * c + i ≤ x ∧ x < 100 + 80 * c + F) by omega)]
    · rw [if_neg e, if_neg (show ¬ (100 + 80 * c + i ≤ x ∧ x < 100 + 80 * c + F) by omega)]
/-- what one car's line leaves at a place -/
theorem kb_step {c x : Nat} {w : Nat → Int32} (hF : F ≤ 80) : up (kdL T c F 81 0 (up (kcL T c 5 0 w) (10 + 20 * c + 10) (T 6 (10 * c + 4)))) (10 + 20 * c + 5) (-1) x = if x = 10 + 20 * c + 5 then -1 else if 10 + 20 * c + 6 ≤ x ∧ x < 10 + 20 * c + 11 then T 6 (10 * c + (x - (10 + 20 * c + 6))) else if 100 + 80 * c ≤ x ∧ x < 100 + 80 * c + F then (if T 10 (80 * c + (x - (100 + 80 * c))) = 0 then nI 1 else nI 0) else w x := by
  by_cases e : x = 10 + 20 * c + 5
  · subst e; rw [up_s, if_pos rfl]
  · rw [up_n e, if_neg e, kdL_at 81 0 _ (by omega)]
    by_cases e1 : 100 + 80 * c + 0 ≤ x ∧ x < 100 + 80 * c + F
    · rw [if_pos e1, if_neg (show ¬ (10 + 20 * c + 6 ≤ x ∧ x < 10 + 20 * c + 11) by omega), if_pos (show 100 + 80 * c ≤ x ∧ x < 100 + 80 * c + F by omega)]
    · rw [if_neg e1, if_neg (show ¬ (100 + 80 * c ≤ x ∧ x < 100 + 80 * c + F) by omega)]
      by_cases e2 : x = 10 + 20 * c + 10
      · subst e2; rw [up_s, if_pos (show 10 + 20 * c + 6 ≤ 10 + 20 * c + 10 ∧ 10 + 20 * c + 10 < 10 + 20 * c + 11 by omega), show 10 + 20 * c + 10 - (10 + 20 * c + 6) = 4 by omega]
      · rw [up_n e2, kcL_at 5 0 _ (by omega)]
        by_cases e3 : 10 + 20 * c + (6 + 0) ≤ x ∧ x < 10 + 20 * c + 10
        · rw [if_pos e3, if_pos (show 10 + 20 * c + 6 ≤ x ∧ x < 10 + 20 * c + 11 by omega)]
        · rw [if_neg e3, if_neg (show ¬ (10 + 20 * c + 6 ≤ x ∧ x < 10 + 20 * c + 11) by omega)]
theorem kbL_car (hF : F ≤ 80) (hn : nc ≤ 4) : ∀ (f c : Nat) (w : Nat → Int32), nc < c + f → ∀ d, d < nc → (∀ x, x = 10 + 20 * d + 5 → kbL T F nc f c w x = if c ≤ d then -1 else w x) ∧ (∀ x, 10 + 20 * d + 6 ≤ x → x < 10 + 20 * d + 11 → kbL T F nc f c w x = if c ≤ d then T 6 (10 * d + (x - (10 + 20 * d + 6))) else w x) ∧ ∀ x, 100 + 80 * d ≤ x → x < 100 + 80 * d + F → kbL T F nc f c w x = if c ≤ d then (if T 10 (80 * d + (x - (100 + 80 * d))) = 0 then nI 1 else nI 0) else w x
  | 0, c, w, h, d, hd => by
    refine ⟨fun x _ => ?_, fun x _ _ => ?_, fun x _ _ => ?_⟩ <;> (rw [if_neg (by omega)]; rfl)
  | f + 1, c, w, h, d, hd => by
    rw [kbL]
    by_cases e : c < nc
    · rw [if_pos e]
      obtain ⟨i1, i2, i3⟩ := kbL_car hF hn f (c + 1) (up (kdL T c F 81 0 (up (kcL T c 5 0 w) (10 + 20 * c + 10) (T 6 (10 * c + 4)))) (10 + 20 * c + 5) (-1)) (by omega) d hd
      refine ⟨fun x hx => ?_, fun x h1 h2 => ?_, fun x h1 h2 => ?_⟩
      · rw [i1 x hx, kb_step hF]
        by_cases ed : d = c
        · subst ed; rw [if_neg (by omega), if_pos hx, if_pos (by omega)]
        · by_cases e2 : c + 1 ≤ d
          · rw [if_pos e2, if_pos (by omega)]
          · rw [if_neg e2, if_neg (show ¬ c ≤ d by omega), if_neg (by omega), if_neg (by omega), if_neg (by omega)]
      · rw [i2 x h1 h2, kb_step hF]
        by_cases ed : d = c
        · subst ed; rw [if_neg (by omega), if_neg (by omega), if_pos ⟨h1, h2⟩, if_pos (by omega)]
        · by_cases e2 : c + 1 ≤ d
          · rw [if_pos e2, if_pos (by omega)]
          · rw [if_neg e2, if_neg (show ¬ c ≤ d by omega), if_neg (by omega), if_neg (by omega), if_neg (by omega)]
      · rw [i3 x h1 h2, kb_step hF]
        by_cases ed : d = c
        · subst ed; rw [if_neg (show ¬ d + 1 ≤ d by omega), if_neg (show ¬ x = 10 + 20 * d + 5 by omega), if_neg (show ¬ (10 + 20 * d + 6 ≤ x ∧ x < 10 + 20 * d + 11) by omega), if_pos (show 100 + 80 * d ≤ x ∧ x < 100 + 80 * d + F from ⟨h1, h2⟩), if_pos (show d ≤ d by omega)]
        · by_cases e2 : c + 1 ≤ d
          · rw [if_pos e2, if_pos (show c ≤ d by omega)]
          · rw [if_neg e2, if_neg (show ¬ c ≤ d by omega), if_neg (show ¬ x = 10 + 20 * c + 5 by omega), if_neg (show ¬ (10 + 20 * c + 6 ≤ x ∧ x < 10 + 20 * c + 11) by omega), if_neg (show ¬ (100 + 80 * c ≤ x ∧ x < 100 + 80 * c + F) by omega)]
    · rw [if_neg e]
      refine ⟨fun x _ => ?_, fun x _ _ => ?_, fun x _ _ => ?_⟩ <;> rw [if_neg (show ¬ c ≤ d by omega)]
theorem kbL_fr (hF : F ≤ 80) (hn : nc ≤ 4) {x : Nat} (hx : ∀ c, c < nc → x ≠ 10 + 20 * c + 5 ∧ ¬ (10 + 20 * c + 6 ≤ x ∧ x < 10 + 20 * c + 11) ∧ ¬ (100 + 80 * c ≤ x ∧ x < 100 + 80 * c + F)) : ∀ (f c : Nat) (w : Nat → Int32), kbL T F nc f c w x = w x
  | 0, _, _ => rfl
  | f + 1, c, w => by
    rw [kbL]
    by_cases e : c < nc
    · obtain ⟨a, b, d⟩ := hx c e
      rw [if_pos e, kbL_fr hF hn hx f, kb_step hF, if_neg a, if_neg b, if_neg d]
    · rw [if_neg e]
theorem keL_at {x : Nat} : ∀ (f i : Nat) (w : Nat → Int32), F < i + f → keL F f i w x = if 740 + i ≤ x ∧ x < 740 + F then nI 1 else w x
  | 0, i, w, h => by rw [if_neg (by omega)]; rfl
  | f + 1, i, w, h => by
    rw [keL]
    by_cases e : i < F
    · rw [if_pos e, keL_at f (i + 1) _ (by omega)]
      by_cases e2 : 740 + (i + 1) ≤ x ∧ x < 740 + F
      · rw [if_pos e2, if_pos (by omega)]
      · rw [if_neg e2]
        by_cases e3 : x = 740 + i
        · subst e3; rw [up_s, if_pos (by omega)]
        · rw [up_n e3, if_neg (by omega)]
    · rw [if_neg e, if_neg (by omega)]
/-- the row of a new tower, place by place -/
def ktP (T : tT) (F nc ln : Nat) (w : Nat → Int32) : Nat → Int32 := fun x => if 1300 ≤ x then w x else if x = 0 then nI F else if x = 1 then nI nc else if x = 4 then w 4 else if x = 5 then nI ln else if 740 ≤ x ∧ x < 740 + F then nI 1 else if 100 ≤ x ∧ x < 420 then (if (x - 100) / 80 < nc ∧ (x - 100) % 80 < F then (if T 10 (80 * ((x - 100) / 80) + (x - 100) % 80) = 0 then nI 1 else nI 0) else nI 0) else if 10 ≤ x ∧ x < 90 ∧ (x - 10) / 20 < nc then (if (x - 10) % 20 = 0 then T 6 (10 * ((x - 10) / 20) + 4) else if (x - 10) % 20 = 5 then -1 else if 6 ≤ (x - 10) % 20 ∧ (x - 10) % 20 < 11 then T 6 (10 * ((x - 10) / 20) + ((x - 10) % 20 - 6)) else nI 0) else nI 0
theorem kt_at (hF : F ≤ 80) (hn : nc ≤ 4) (x : Nat) : ktW T F nc ln w x = ktP T F nc ln w x := by
  have z0 : ∀ x, x < 1300 → ztL 1301 0 w x = nI 0 := fun x hx => ztL_at 1301 0 w (by omega) (by omega) hx
  have base : ∀ x, 10 ≤ x → x < 1300 → up (up (up (up (ztL 1301 0 w) 4 (w 4)) 0 (nI F)) 1 (nI nc)) 5 (nI ln) x = nI 0 := fun x h1 h2 => by
    rw [up_n (by omega), up_n (by omega), up_n (by omega), up_n (by omega), z0 x h2]
  unfold ktW ktP
  by_cases hi : 1300 ≤ x
  · rw [if_pos hi, pkW_fr (fun c hc j hj => by omega), keL_at 81 0 _ (by omega), if_neg (by omega), kbL_fr hF hn (fun c hc => by omega), up_n (by omega), up_n (by omega), up_n (by omega), up_n (by omega), ztL_hi hi]
  · rw [if_neg hi]
    by_cases lo : x < 10
    · rw [pkW_fr (fun c hc j hj => by omega), keL_at 81 0 _ (by omega), if_neg (by omega), kbL_fr hF hn (fun c hc => by omega)]
      rw [if_neg (show ¬ (740 ≤ x ∧ x < 740 + F) by omega), if_neg (show ¬ (100 ≤ x ∧ x < 420) by omega), if_neg (show ¬ (10 ≤ x ∧ x < 90 ∧ (x - 10) / 20 < nc) by omega)]
      by_cases e0 : x = 0
      · subst e0; rw [if_pos rfl, up_n (by omega), up_n (by omega), up_s]
      · rw [if_neg e0]
        by_cases e1 : x = 1
        · subst e1; rw [if_pos rfl, up_n (by omega), up_s]
        · rw [if_neg e1]
          by_cases e4 : x = 4
          · subst e4; rw [if_pos rfl, up_n (by omega), up_n (by omega), up_n (by omega), up_s]
          · rw [if_neg e4]
            by_cases e5 : x = 5
            · subst e5; rw [if_pos rfl, up_s]
            · rw [if_neg e5, up_n e5, up_n e1, up_n e0, up_n e4, z0 x (by omega)]
    · rw [if_neg (by omega), if_neg (by omega), if_neg (by omega), if_neg (by omega)]
      by_cases e7 : 740 ≤ x ∧ x < 740 + F
      · rw [if_pos e7, pkW_fr (fun c hc j hj => by omega), keL_at 81 0 _ (by omega), if_pos (by omega)]
      · rw [if_neg e7]
        by_cases e1 : 100 ≤ x ∧ x < 420
        · rw [if_pos e1, pkW_fr (fun c hc j hj => by omega), keL_at 81 0 _ (by omega), if_neg (by omega)]
          by_cases e2 : (x - 100) / 80 < nc ∧ (x - 100) % 80 < F
          · rw [if_pos e2, (kbL_car hF hn 5 0 _ (by omega) ((x - 100) / 80) e2.1).2.2 x (by omega) (by omega), if_pos (by omega), show x - (100 + 80 * ((x - 100) / 80)) = (x - 100) % 80 by omega]
          · rw [if_neg e2, kbL_fr hF hn (fun c hc => ⟨by omega, by omega, fun z => e2 (by
              have : (x - 100) / 80 = c := by omega
              rw [this]
              exact ⟨hc, by omega⟩)⟩), base x (by omega) (by omega)]
        · rw [if_neg e1]
          by_cases e2 : 10 ≤ x ∧ x < 90 ∧ (x - 10) / 20 < nc
          · rw [if_pos e2]
            obtain ⟨d, hd, k, hk, rfl⟩ : ∃ d, d < nc ∧ ∃ k, k < 20 ∧ x = 10 + 20 * d + k := ⟨(x - 10) / 20, e2.2.2, (x - 10) % 20, by omega, by omega⟩
            rw [show (10 + 20 * d + k - 10) / 20 = d by omega, show (10 + 20 * d + k - 10) % 20 = k by omega]
            obtain ⟨b1, b2, b3⟩ := kbL_car (T := T) hF hn 5 0 (up (up (up (up (ztL 1301 0 w) 4 (w 4)) 0 (nI F)) 1 (nI nc)) 5 (nI ln)) (by omega) d hd
            have ke : ∀ j, j < 20 → keL F 81 0 (kbL T F nc 5 0 (up (up (up (up (ztL 1301 0 w) 4 (w 4)) 0 (nI F)) 1 (nI nc)) 5 (nI ln))) (10 + 20 * d + j) = kbL T F nc 5 0 (up (up (up (up (ztL 1301 0 w) 4 (w 4)) 0 (nI F)) 1 (nI nc)) 5 (nI ln)) (10 + 20 * d + j) := fun j hj => by rw [keL_at 81 0 _ (by omega), if_neg (by omega)]
            obtain ⟨p0, p1, p2⟩ := pkW_at hn (nc + 1) 0 (keL F 81 0 (kbL T F nc 5 0 (up (up (up (up (ztL 1301 0 w) 4 (w 4)) 0 (nI F)) 1 (nI nc)) 5 (nI ln)))) (by omega) d (by omega) hd
            by_cases k0 : k = 0
            · subst k0
              rw [if_pos rfl, p0, ke 10 (by omega), b2 _ (by omega) (by omega), if_pos (by omega), show 10 + 20 * d + 10 - (10 + 20 * d + 6) = 4 by omega]
            · rw [if_neg k0]
              by_cases k5 : k = 5
              · subst k5
                rw [if_pos rfl, pkW_fr (fun c hc j hj => by omega), ke 5 (by omega), b1 _ rfl, if_pos (by omega)]
              · rw [if_neg k5]
                by_cases k6 : 6 ≤ k ∧ k < 11
                · rw [if_pos k6, pkW_fr (fun c hc j hj => by omega), ke k hk, b2 _ (by omega) (by omega), if_pos (by omega), show 10 + 20 * d + k - (10 + 20 * d + 6) = k - 6 by omega]
                · rw [if_neg k6]
                  have hb : kbL T F nc 5 0 (up (up (up (up (ztL 1301 0 w) 4 (w 4)) 0 (nI F)) 1 (nI nc)) 5 (nI ln)) (10 + 20 * d + k) = nI 0 := by rw [kbL_fr hF hn (fun c hc => by omega), base _ (by omega) (by omega)]
                  rcases (show k = 1 ∨ k = 2 ∨ k = 3 ∨ 4 ≤ k by omega) with z | z | z | z
                  · subst z; exact p1
                  · subst z; exact p2
                  · subst z; exact pkW_3 (nc + 1) 0 _ (by omega) d (by omega) hd
                  · rw [pkW_fr (fun c hc j hj => by omega), ke k hk, hb]
          · rw [if_neg e2, pkW_fr (fun c hc j hj => by omega), keL_at 81 0 _ (by omega), if_neg (by omega), kbL_fr hF hn (fun c hc => by omega), base x (by omega) (by omega)]
end P22

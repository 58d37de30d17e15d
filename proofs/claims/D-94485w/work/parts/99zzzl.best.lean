set_option maxRecDepth 100000
/-! ===== best: class and reference find the same ===== -/
section P12
variable {v w : Nat → Int32} {n nC f N : Nat}
theorem s2W_tr {A B : Nat → Int32} {rr nl : Nat} (h : ∀ p, p < n → A p = B p) : ∀ (k i : Nat) (w : Nat → Int32), s2W (some A) n rr nl nC k i w = s2W (some B) n rr nl nC k i w
  | 0, _, _ => rfl
  | k + 1, i, w => by
    rw [s2W, s2W]
    by_cases e : i < n
    · rw [if_pos e, if_pos e, s2W_tr h k]
      have eg : gcW (some A) i n rr nl nC w = gcW (some B) i n rr nl nC w := by
        show up w _ (A i) = up w _ (B i)
        rw [h i e]
      rw [eg]
    · rw [if_neg e, if_neg e]
theorem secW_tr {A B : Nat → Int32} {pr : Int32} {ps rr nl : Nat} (h : ∀ p, p < n → A p = B p) : secW (some A) pr ps n f rr nl nC = secW (some B) pr ps n f rr nl nC := by
  funext w
  unfold secW
  rw [s2W_tr h]
/-- digits of a number -/
def dg (b : Nat) : Nat → Nat → Nat → Nat
  | 0, _, _ => 0
  | m + 1, q, j => if j = m then q % b else dg b m (q / b) j
theorem gvL_A : ∀ (m q : Nat) (A : Nat → Int32) (c : Bool) (j : Nat), (gvL w nC m q A c).1 j = if j < m then nI (dg nC m q j) else A j
  | 0, q, A, c, j => by rw [if_neg (by omega)]; rfl
  | m + 1, q, A, c, j => by
    rw [gvL, gvL_A m]
    by_cases e : j < m
    · rw [if_pos e, if_pos (by omega), dg, if_neg (by omega)]
    · rw [if_neg e]
      by_cases e2 : j = m
      · subst e2; rw [up_s, if_pos (by omega), dg, if_pos rfl]
      · rw [up_n e2, if_neg (by omega)]
theorem gvL_c : ∀ (m q : Nat) (A : Nat → Int32) (c : Bool), (gvL w nC m q A c).2 = true ↔ c = true ∧ ∀ j, j < m → svD w (dg nC m q j) j = true
  | 0, q, A, c => ⟨fun h => ⟨h, fun j hj => by omega⟩, fun h => h.1⟩
  | m + 1, q, A, c => by
    rw [gvL, gvL_c m, Bool.and_eq_true]
    constructor
    · rintro ⟨⟨h1, h2⟩, h3⟩
      refine ⟨h1, fun j hj => ?_⟩
      rw [dg]
      by_cases e : j = m
      · subst e; rw [if_pos rfl]; exact h2
      · rw [if_neg e]; exact h3 j (by omega)
    · rintro ⟨h1, h2⟩
      refine ⟨⟨h1, ?_⟩, fun j hj => ?_⟩
      · have := h2 m (by omega)
        rwa [dg, if_pos rfl] at this
      · have := h2 j (by omega)
        rwa [dg, if_neg (by omega)] at this
/-- digits of the first p of p + m places -/
theorem dg_pre {b p : Nat} (hb : 0 < b) : ∀ (m Q i j : Nat), i < b ^ m → j < p → dg b (p + m) (Q * b ^ m + i) j = dg b p Q j
  | 0, Q, i, j, hi, hj => by
    have : i = 0 := by simpa using hi
    subst this
    simp
  | m + 1, Q, i, j, hi, hj => by
    rw [show p + (m + 1) = (p + m) + 1 by omega, dg, if_neg (by omega)]
    have e : (Q * b ^ (m + 1) + i) / b = Q * b ^ m + i / b := by
      rw [Nat.pow_succ, ← Nat.mul_assoc, Nat.add_comm, Nat.add_mul_div_right _ _ hb, Nat.add_comm]
    rw [e]
    exact dg_pre hb m Q (i / b) j (by rw [Nat.pow_succ] at hi; exact (Nat.div_lt_iff_lt_mul hb).mpr hi) hj
theorem dg_snoc {b p Q c j : Nat} (hb : 0 < b) (hc : c < b) (hj : j < p) : dg b (p + 1) (Q * b + c) j = dg b p Q j := by
  rw [dg, if_neg (by omega), Nat.add_comm, Nat.add_mul_div_right _ _ hb, Nat.div_eq_of_lt hc, Nat.zero_add]
theorem dg_last {b p Q c : Nat} (hc : c < b) : dg b (p + 1) (Q * b + c) p = c := by
  rw [dg, if_pos rfl, Nat.add_comm, Nat.add_mul_mod_self_right, Nat.mod_eq_of_lt hc]
def rng {σ : Type} (F : Nat → σ → σ) : Nat → Nat → σ → σ
  | 0, _, s => s
  | k + 1, q, s => rng F k (q + 1) (F q s)
theorem rng_add {σ : Type} {F : Nat → σ → σ} : ∀ (a b q : Nat) (s : σ), rng F (a + b) q s = rng F b (q + a) (rng F a q s)
  | 0, b, q, s => by rw [Nat.zero_add]; rfl
  | a + 1, b, q, s => by
    rw [show a + 1 + b = (a + b) + 1 by omega, rng, rng, rng_add a b, show q + 1 + a = q + (a + 1) by omega]
def fb1 (v : Nat → Int32) (n f nC r q : Nat) (s : tS) : tS := if (gvL v nC n q s.1 true).2 = true then (if cnt (stp (gbP v n f nC r (gvL v nC n q s.1 true).1).1 3) n = n then (if s.2.2 = -1 ∨ ovW (gbP v n f nC r (gvL v nC n q s.1 true).1).1 (-1) n (n + 1) 0 (nI 0) < s.2.2 then ((gvL v nC n q s.1 true).1, (fun j => if j < 6 then (gvL v nC n q s.1 true).1 j else s.2.1 j), ovW (gbP v n f nC r (gvL v nC n q s.1 true).1).1 (-1) n (n + 1) 0 (nI 0)) else ((gvL v nC n q s.1 true).1, s.2)) else ((gvL v nC n q s.1 true).1, s.2)) else ((gvL v nC n q s.1 true).1, s.2)
theorem fbL_rng {r all : Nat} : ∀ (k q : Nat) (s : tS), q ≤ all → all < q + k → fbL v n f nC r all k q s = rng (fb1 v n f nC r) (all - q) q s
  | 0, q, s, h1, h2 => by omega
  | k + 1, q, s, h1, h2 => by
    rw [fbL]
    by_cases e : q < all
    · rw [if_pos e, show all - q = (all - (q + 1)) + 1 by omega, rng]
      unfold fb1
      split
      · split
        · split
          · exact fbL_rng k (q + 1) _ (by omega) (by omega)
          · exact fbL_rng k (q + 1) _ (by omega) (by omega)
        · exact fbL_rng k (q + 1) _ (by omega) (by omega)
      · exact fbL_rng k (q + 1) _ (by omega) (by omega)
    · rw [if_neg e, show all - q = 0 by omega]; rfl
theorem rng_dead {r : Nat} : ∀ (k q : Nat) (s : tS), (∀ x, q ≤ x → x < q + k → ¬ ∀ j, j < n → svD v (dg nC n x j) j = true) → (rng (fb1 v n f nC r) k q s).2 = s.2
  | 0, _, _, _ => rfl
  | k + 1, q, s, h => by
    rw [rng, rng_dead k (q + 1) _ (fun x h1 h2 => h x (by omega) (by omega))]
    unfold fb1
    rw [if_neg (fun z => h q (by omega) (by omega) ((gvL_c _ _ _ _).mp z).2)]
/-- what both have found -/
def bR (n : Nat) (s t : tS) : Prop := s.2.2 = t.2.2 ∧ (s.2.2 = -1 ∨ ∀ j, j < n → s.2.1 j = t.2.1 j)
theorem bs_leaf {r : Nat} (hG : GI w n f nC) (h : Rl n nC v w) (hr : r < 3) (h4 : w 4 = nI r) (hn6 : n ≤ 6) {Q : Nat} {s t : tS} (hb : bR n s t) (hp : ∀ j, j < n → t.1 j = nI (dg nC n Q j)) (hs : ∀ j, j < n → svD v (dg nC n Q j) j = true) : bR n (fb1 v n f nC r Q s) (lfW (fun tr => secW (some tr) (-1) 0 n f r (nlW w r) nC) w n t) := by
  have hA : ∀ j, j < n → (gvL v nC n Q s.1 true).1 j = t.1 j := fun j hj => by rw [gvL_A, if_pos hj, hp j hj]
  obtain ⟨a1, a2⟩ := edW_Rl (tr := some (gvL v nC n Q s.1 true).1) (pr := -1) (ps := 0) (nl := nlW w r) (wi := 3000) (hG.bd (r := r) hr) (by omega) 3001 0 (up v 4 (nI r)) w (hG.ws hr h4) (by
    have := h.up1 (i := 4) (x := nI r) (fun p _ => by omega)
    rwa [up_self h4] at this)
  have e1 : (gbP v n f nC r (gvL v nC n Q s.1 true).1).1 = (edW (secW (some (gvL v nC n Q s.1 true).1) (-1) 0 n f r (nlW w r) nC) n 3000 3001 0 (up v 4 (nI r))).1 := by
    unfold gbP; rw [nlW_Rl h]
  rw [← e1, secW_tr (B := t.1) hA] at a1
  obtain ⟨b1, b2⟩ := hb
  unfold fb1 lfW
  rw [if_pos ((gvL_c _ _ _ _).mpr ⟨rfl, hs⟩), a1.cs1 3, ← b1]
  by_cases c1 : cnt (stp (edW (secW (some t.1) (-1) 0 n f r (nlW w r) nC) n 3000 3001 0 w).1 3) n = n
  · rw [if_pos c1, if_pos c1, ovW_Rl a1 c1]
    by_cases c2 : s.2.2 = -1 ∨ ovW (edW (secW (some t.1) (-1) 0 n f r (nlW w r) nC) n 3000 3001 0 w).1 (-1) n (n + 1) 0 (nI 0) < s.2.2
    · rw [if_pos c2, if_pos c2]
      refine ⟨rfl, Or.inr (fun j hj => ?_)⟩
      show (if j < 6 then _ else _) = mixW n t.1 t.2.1 j
      rw [if_pos (by omega), hA j hj]
      exact (if_pos hj).symm
    · rw [if_neg c2, if_neg c2]; exact ⟨b1, b2⟩
  · rw [if_neg c1, if_neg c1]; exact ⟨b1, b2⟩
theorem tgR_pre {sdf : (Nat → Int32) → (Nat → Int32) → (Nat → Int32)} : ∀ (m p : Nat) (t : tS) (j : Nat), j < p → (tgR sdf w n nC m p t).1 j = t.1 j
  | 0, p, t, j, hj => by
    rw [tgR]
    unfold lfW
    split
    · split <;> rfl
    · rfl
  | m + 1, p, t, j, hj => by
    rw [tgR]
    have : ∀ (k c : Nat) (t : tS), (tgL w p nC (tgR sdf w n nC m (p + 1)) k c t).1 j = t.1 j := by
      intro k
      induction k with
      | zero => intro c t; rfl
      | succ k ih =>
        intro c t
        rw [tgL]
        split
        · rw [ih]
          split
          · split
            · rw [tgR_pre m (p + 1) _ j (by omega)]; exact up_n (by omega)
            · rfl
          · rfl
        · rfl
    exact this _ _ _
theorem bs_main {r : Nat} (hG : GI w n f nC) (h : Rl n nC v w) (hr : r < 3) (h4 : w 4 = nI r) (hn6 : n ≤ 6) (hC : 0 < nC) (hsv : ∀ c j, c < nC → j < n → svD v c j = svD w c j) : ∀ (m p Q : Nat) (s t : tS), p + m = n → bR n s t → (∀ j, j < p → t.1 j = nI (dg nC p Q j)) → (∀ j, j < p → svD v (dg nC p Q j) j = true) → bR n (rng (fb1 v n f nC r) (nC ^ m) (Q * nC ^ m) s) (tgR (fun tr => secW (some tr) (-1) 0 n f r (nlW w r) nC) w n nC m p t)
  | 0, p, Q, s, t, hm, hb, hp, hs => by
    obtain rfl : p = n := by omega
    rw [tgR, Nat.pow_zero, Nat.mul_one]
    exact bs_leaf hG h hr h4 hn6 hb hp hs
  | m + 1, p, Q, s, t, hm, hb, hp, hs => by
    rw [tgR]
    have lp : ∀ (k c : Nat) (s t : tS), c ≤ nC → nC < c + k → bR n s t → (∀ j, j < p → t.1 j = nI (dg nC p Q j)) → bR n (rng (fb1 v n f nC r) ((nC - c) * nC ^ m) ((Q * nC + c) * nC ^ m) s) (tgL w p nC (tgR (fun tr => secW (some tr) (-1) 0 n f r (nlW w r) nC) w n nC m (p + 1)) k c t) := by
      intro k
      induction k with
      | zero => intro c s t h1 h2; omega
      | succ k ih =>
        intro c s t h1 h2 hb hp
        rw [tgL]
        by_cases e : c < nC
        · rw [if_pos e, show (nC - c) * nC ^ m = nC ^ m + (nC - (c + 1)) * nC ^ m by
            rw [show nC - c = (nC - (c + 1)) + 1 by omega, Nat.add_mul, Nat.one_mul, Nat.add_comm], rng_add, show (Q * nC + c) * nC ^ m + nC ^ m = (Q * nC + (c + 1)) * nC ^ m by
            rw [show Q * nC + (c + 1) = (Q * nC + c) + 1 by omega, Nat.add_mul (Q * nC + c) 1, Nat.one_mul]]
          have hdg : ∀ j, j < p + 1 → dg nC (p + 1) (Q * nC + c) j = if j = p then c else dg nC p Q j := fun j hj => by
            by_cases ej : j = p
            · subst ej; rw [if_pos rfl, dg_last e]
            · rw [if_neg ej, dg_snoc hC e (by omega)]
          by_cases sv : svD w c p = true
          · have sv2 := of_decide_eq_true sv
            rw [if_pos sv2.1, if_pos sv2.2]
            have hp1 : ∀ j, j < p + 1 → up t.1 p (nI c) j = nI (dg nC (p + 1) (Q * nC + c) j) := fun j hj => by
              rw [hdg j hj]
              by_cases ej : j = p
              · subst ej; rw [up_s, if_pos rfl]
              · rw [up_n ej, if_neg ej, hp j (by omega)]
            refine ih (c + 1) _ _ (by omega) (by omega) (bs_main hG h hr h4 hn6 hC hsv m (p + 1) (Q * nC + c) s (up t.1 p (nI c), t.2) (by omega) hb hp1 (fun j hj => ?_)) (fun j hj => ?_)
            · rw [hdg j hj]
              by_cases ej : j = p
              · subst ej; rw [if_pos rfl, hsv c j e (by omega)]; exact sv
              · rw [if_neg ej]; exact hs j (by omega)
            · rw [tgR_pre m (p + 1) _ j (by omega)]
              exact (up_n (by omega)).trans (hp j hj)
          · have hskip : (if w (100 + 80 * c + wN w (820 + 8 * p + 1)) = nI 1 then (if w (100 + 80 * c + wN w (820 + 8 * p + 2)) = nI 1 then tgR (fun tr => secW (some tr) (-1) 0 n f r (nlW w r) nC) w n nC m (p + 1) (up t.1 p (nI c), t.2) else t) else t) = t := by
              by_cases q1 : w (100 + 80 * c + wN w (820 + 8 * p + 1)) = nI 1
              · rw [if_pos q1, if_neg (fun q2 => sv (decide_eq_true ⟨q1, q2⟩))]
              · rw [if_neg q1]
            rw [hskip]
            refine ih (c + 1) _ _ (by omega) (by omega) ?_ hp
            have hd := rng_dead (v := v) (n := n) (f := f) (nC := nC) (r := r) (nC ^ m) ((Q * nC + c) * nC ^ m) s (fun x x1 x2 hx => ?_)
            · exact ⟨by rw [hd]; exact hb.1, by rw [hd]; exact hb.2⟩
            · have hx2 := hx p (by omega)
              have e3 : dg nC n x p = c := by
                have := dg_pre (p := p + 1) hC m (Q * nC + c) (x - (Q * nC + c) * nC ^ m) p (by omega) (by omega)
                rw [show (Q * nC + c) * nC ^ m + (x - (Q * nC + c) * nC ^ m) = x by omega, show p + 1 + m = n by omega] at this
                rw [this, dg_last e]
              rw [e3, hsv c p e (by omega)] at hx2
              exact sv hx2
        · obtain rfl : c = nC := by omega
          rw [if_neg e, Nat.sub_self, Nat.zero_mul]
          exact hb
    have := lp (nC + 1) 0 s t (by omega) (by omega) hb hp
    rw [Nat.sub_zero, Nat.add_zero, show nC * nC ^ m = nC ^ (m + 1) by rw [Nat.pow_succ, Nat.mul_comm], Nat.mul_assoc, show nC * nC ^ m = nC ^ (m + 1) by rw [Nat.pow_succ, Nat.mul_comm]] at this
    exact this
theorem g1_Rl (h : Rl n nC v w) : ∀ (k c : Nat), g1L v nC k c = g1L w nC k c
  | 0, _ => rfl
  | k + 1, c => by
    rw [g1L, g1L]
    by_cases e : c < nC
    · rw [if_pos e, if_pos e, h.c1 e (by decide), g1_Rl h k]
    · rw [if_neg e, if_neg e]
theorem g2_Rl (h : Rl n nC v w) : ∀ (k i : Nat), g2L v n k i = g2L w n k i
  | 0, _ => rfl
  | k + 1, i => by
    rw [g2L, g2L]
    by_cases e : i < n
    · rw [if_pos e, if_pos e, h.p1 e (show 3 < 5 by decide), h.p1 e (show 4 < 5 by decide), g2_Rl h k]
    · rw [if_neg e, if_neg e]
theorem bs_law {T : tT} {ps r : Nat} {A B : Nat → Int32} {x : Int32} (hG : GI w n f nC) (h : Rl n nC v w) (hr : r < 3) (h4 : w 4 = nI r) (h29 : T 0 29 = -1) : bsC v n f nC r A B x = bsQ T ps n f nC x w := by
  have hn := hG.1.1
  have hf := hG.1.2.1
  have hC := hG.1.2.2
  unfold bsC bsQ
  have e4 : wN w 4 = r := by unfold wN; rw [h4, nI_clamp (by omega)]
  have es : (fun tr => secW (some tr) (T 0 29) ps n f (wN w 4) (nlW w (wN w 4)) nC) = (fun tr => secW (some tr) (-1) 0 n f r (nlW w r) nC) := by
    funext tr
    rw [e4, h29, secW_ps (qs := 0) hn]
  rw [es, h.g1 (i := 2) (by omega), hG.2.2.2.1, hG.2.2.1, g1_Rl h, g2_Rl h]
  by_cases c1 : (nI 1 ≤ nI n ∧ nI n ≤ nI 6) ∧ (nI 1 ≤ nI nC ∧ nI nC ≤ nI 3) ∧ g2L w n (n + 1) 0 = true ∧ g1L w nC (nC + 1) 0 = true
  · have c1' : (nI 1 ≤ nI n ∧ nI n ≤ nI 6) ∧ (nI 1 ≤ nI nC ∧ nI nC ≤ nI 3) ∧ g1L w nC (nC + 1) 0 = true ∧ g2L w n (n + 1) 0 = true := ⟨c1.1, c1.2.1, c1.2.2.2, c1.2.2.1⟩
    rw [if_pos c1, if_pos c1', nI_add]
    have hn6 : n ≤ 6 := (nI_leI (by omega) (by omega)).mp c1.1.2
    have hC1 : 1 ≤ nC := (nI_leI (by omega) (by omega)).mp c1.2.1.1
    by_cases c2 : x = 0 ∨ (nI 10 ≤ x ∧ x ≤ nI (9 + n))
    · rw [if_pos c2, if_pos c2]
      have hsv : ∀ c j, c < nC → j < n → svD v c j = svD w c j := fun c j hc hj => by
        obtain ⟨a, b, a1, a2, a3, a4, -⟩ := hG.2.2.2.2.2.1 j hj
        have n1 : wN w (820 + 8 * j + 1) = a := by unfold wN; rw [a1, nI_clamp (by omega)]
        have n2 : wN w (820 + 8 * j + 2) = b := by unfold wN; rw [a2, nI_clamp (by omega)]
        unfold svD
        rw [h.n1 hj (show 1 < 5 by decide), h.n1 hj (show 2 < 5 by decide), n1, n2, h.g1 (i := 100 + 80 * c + a) (by omega), h.g1 (i := 100 + 80 * c + b) (by omega)]
      have key := bs_main hG h hr h4 hn6 (by omega) hsv n 0 0 (A, B, -1) (T 11, T 12, -1) (by omega) ⟨rfl, Or.inl rfl⟩ (fun j hj => by omega) (fun j hj => by omega)
      rw [fbL_rng (nC ^ n + 1) 0 _ (by omega) (by omega), Nat.sub_zero]
      rw [Nat.zero_mul] at key
      rw [← key.1]
      by_cases c3 : (rng (fb1 v n f nC r) (nC ^ n) 0 (A, B, -1)).2.2 = -1
      · rw [if_pos (Or.inr c3), if_pos c3, c3]
      · rw [if_neg c3]
        by_cases c4 : x = 0
        · rw [if_pos (Or.inl c4), if_pos c4]
        · rw [if_neg (fun z => z.elim c4 c3), if_neg c4]
          obtain ⟨y, y1, y2, rfl⟩ := nI_between (by omega) (c2.resolve_left c4) (by decide)
          rw [nI_clamp (by omega)]
          exact key.2.resolve_left c3 _ (by omega)
    · rw [if_neg c2, if_neg c2]
  · rw [if_neg c1, if_neg (fun z => c1 ⟨z.1, z.2.1, z.2.2.2, z.2.2.1⟩)]
end P12

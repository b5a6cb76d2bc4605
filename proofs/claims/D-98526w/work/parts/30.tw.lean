/-! ===== the reference's world: role 0 the object, role k the array of field k; rows of arrays of arrays from 100 on ===== -/
set_option maxRecDepth 100000
abbrev tI : Type := Nat → Nat → Int32
/-- layouts of the roles below 60 -/
def tLa : List (Option (Nat × Nat)) := [some (8, 56), none, none, none, none, none, none, none, none, some (100, 600), some (100, 2), some (100, 4), some (100, 4), some (100, 8), some (100, 8), some (100, 8), some (100, 8), some (100, 9), some (100, 9), some (110, 9), some (110, 9), some (110, 8), some (110, 8), some (110, 6), some (110, 6), some (110, 9), some (110, 9), none, none, some (110, 160), some (110, 160), some (110, 12), some (110, 12), some (110, 3), some (100, 160), some (100, 9), some (100, 107), some (100, 107), some (100, 107), some (100, 107), some (100, 107), none, none, none, none, none, some (100, 12), some (100, 12), some (100, 12), some (100, 12), some (100, 12), none, none, none, some (102, 12), some (100, 9)]
def tL (a : Nat) : Option (Nat × Nat) := match Nat.blt a 100 with
  | true => (tLa[a]?).join
  | false => match Nat.blt a 180 with
    | true => match (a / 10) % 10 with
      | 0 => match Nat.blt (a % 10) 9 with | true => some (100, 3) | false => none
      | 1 => match Nat.blt (a % 10) 9 with | true => some (100, 3) | false => none
      | 2 => match Nat.blt (a % 10) 8 with | true => some (100, 3) | false => none
      | 3 => match Nat.blt (a % 10) 8 with | true => some (100, 3) | false => none
      | 4 => match Nat.blt (a % 10) 6 with | true => some (100, 8) | false => none
      | 5 => match Nat.blt (a % 10) 6 with | true => some (100, 8) | false => none
      | 6 => match Nat.blt (a % 10) 9 with | true => some (100, 9) | false => none
      | _ => match Nat.blt (a % 10) 9 with | true => some (100, 9) | false => none
    | false => match Nat.blt a 200 with
      | true => none
      | false => match Nat.blt a 360 with
        | true => some (100, 2)
        | false => match Nat.blt a 400 with
          | true => none
          | false => match Nat.blt a 560 with
            | true => some (100, 2)
            | false => match Nat.blt a 600 with
              | true => none
              | false => match Nat.blt a 612 with
                | true => some (100, 3)
                | false => match Nat.blt a 620 with
                  | true => none
                  | false => match Nat.blt a 632 with
                    | true => some (100, 3)
                    | false => match Nat.blt a 640 with
                      | true => none
                      | false => match Nat.blt a 643 with
                        | true => some (100, 107)
                        | false => none
/-- references: a field's array, an array's row -/
def tR (a k : Nat) : Option Nat := match a with
  | 0 => some k
  | 19 => some (100 + k)
  | 20 => some (110 + k)
  | 21 => some (120 + k)
  | 22 => some (130 + k)
  | 23 => some (140 + k)
  | 24 => some (150 + k)
  | 25 => some (160 + k)
  | 26 => some (170 + k)
  | 29 => some (200 + k)
  | 30 => some (400 + k)
  | 31 => some (600 + k)
  | 32 => some (620 + k)
  | 33 => some (640 + k)
  | _ => none
def tW (I : tI) : xW := (tL, I, tR, fun _ _ => 0)
abbrev tS : Type := List Value → tI → (Option Value → tI → Prop) → Prop
def tU (S : tS) : xS := fun as w Q _ => ∃ I, w = tW I ∧ S as I (fun v I' => Q v (tW I'))
theorem tW_i (I : tI) : (tW I).2.1 = I := rfl
theorem t_si (I : tI) (a k : Nat) (v : Int32) : xm_si (tW I) a k v = tW (xm_u2 I a k v) := rfl
theorem t_q {Q : Option Value → xW → Prop} {a c : Int32} {w : xW} (h : Q (some (.int a)) w) (e : c = a) : Q (some (.int c)) w := by rw [e]; exact h
theorem t_lb {p q n t s : Nat} (h : ∀ j, j < n → tL (p + j) = some (t, s)) {I : tI} {j : Nat} (hj : j < n) : (tW I).1 (p + j) = some (t, s) := h j hj
theorem t_l100 {I : tI} {j : Nat} (h : j < 9) : (tW I).1 (100 + j) = some (100, 3) := by
  have : ∀ j, j < 9 → tL (100 + j) = some (100, 3) := by decide +kernel
  exact this j h
theorem t_l110 {I : tI} {j : Nat} (h : j < 9) : (tW I).1 (110 + j) = some (100, 3) := by
  have : ∀ j, j < 9 → tL (110 + j) = some (100, 3) := by decide +kernel
  exact this j h
theorem t_l120 {I : tI} {j : Nat} (h : j < 8) : (tW I).1 (120 + j) = some (100, 3) := by
  have : ∀ j, j < 8 → tL (120 + j) = some (100, 3) := by decide +kernel
  exact this j h
theorem t_l130 {I : tI} {j : Nat} (h : j < 8) : (tW I).1 (130 + j) = some (100, 3) := by
  have : ∀ j, j < 8 → tL (130 + j) = some (100, 3) := by decide +kernel
  exact this j h
theorem t_l140 {I : tI} {j : Nat} (h : j < 6) : (tW I).1 (140 + j) = some (100, 8) := by
  have : ∀ j, j < 6 → tL (140 + j) = some (100, 8) := by decide +kernel
  exact this j h
theorem t_l150 {I : tI} {j : Nat} (h : j < 6) : (tW I).1 (150 + j) = some (100, 8) := by
  have : ∀ j, j < 6 → tL (150 + j) = some (100, 8) := by decide +kernel
  exact this j h
theorem t_l160 {I : tI} {j : Nat} (h : j < 9) : (tW I).1 (160 + j) = some (100, 9) := by
  have : ∀ j, j < 9 → tL (160 + j) = some (100, 9) := by decide +kernel
  exact this j h
theorem t_l170 {I : tI} {j : Nat} (h : j < 9) : (tW I).1 (170 + j) = some (100, 9) := by
  have : ∀ j, j < 9 → tL (170 + j) = some (100, 9) := by decide +kernel
  exact this j h
theorem t_l200 {I : tI} {j : Nat} (h : j < 160) : (tW I).1 (200 + j) = some (100, 2) := by
  have : ∀ j, j < 160 → tL (200 + j) = some (100, 2) := by decide +kernel
  exact this j h
theorem t_l400 {I : tI} {j : Nat} (h : j < 160) : (tW I).1 (400 + j) = some (100, 2) := by
  have : ∀ j, j < 160 → tL (400 + j) = some (100, 2) := by decide +kernel
  exact this j h
theorem t_l600 {I : tI} {j : Nat} (h : j < 12) : (tW I).1 (600 + j) = some (100, 3) := by
  have : ∀ j, j < 12 → tL (600 + j) = some (100, 3) := by decide +kernel
  exact this j h
theorem t_l620 {I : tI} {j : Nat} (h : j < 12) : (tW I).1 (620 + j) = some (100, 3) := by
  have : ∀ j, j < 12 → tL (620 + j) = some (100, 3) := by decide +kernel
  exact this j h
theorem t_l640 {I : tI} {j : Nat} (h : j < 3) : (tW I).1 (640 + j) = some (100, 107) := by
  have : ∀ j, j < 3 → tL (640 + j) = some (100, 107) := by decide +kernel
  exact this j h
def t_row (r : Nat) : Prop := tL r = some (100, 107)
theorem t_lrow {I : tI} {r : Nat} (h : t_row r) : (tW I).1 r = some (100, 107) := h
/-! small ones -/
def t_h (I : tI) : Nat := (I 12 0).toNatClampNeg
def t_p (I : tI) : Nat := (I 12 1).toNatClampNeg
def t_a (I : tI) : Nat := (I 12 2).toNatClampNeg
def t_ok (I : tI) : Prop := I 12 0 = nI (t_h I) ∧ t_h I ≤ 9 ∧ I 12 1 = nI (t_p I) ∧ t_p I ≤ 8 ∧ I 12 2 = nI (t_a I) ∧ t_a I ≤ 6
theorem t_row_ne {r : Nat} (h : t_row r) : r ≠ 12 := by
  intro e
  rw [e] at h
  exact absurd (show tL 12 = some (100, 107) from h) (by decide +kernel)
theorem t_qn {Q : Option Value → xW → Prop} {o : Option Value} {I I' : tI} (h : Q o (tW I)) (e : I' = I) : Q o (tW I') := by rw [e]; exact h
theorem t_ok_eq {I I' : tI} (h : t_ok I) (e : I' 12 = I 12) : t_ok I' := by
  unfold t_ok t_h t_p t_a at *
  rw [e]
  exact h
/-- a row of the reference as a troupe -/
def tA (I : tI) (r : Nat) : gT := ((fun p => if p < 8 then I r (1 + p) else nI 0), (fun p => if p < 8 then I r (9 + p) else nI 0), (fun p => if p < 8 then I r (17 + p) else nI 0), (fun h p => if h < 9 ∧ p < 8 then I r (25 + 8 * h + p) else nI 0), (fun h => if h < 9 then I r (97 + h) else nI 0), (fun h => if h < 9 then t_has (I r 0) h else false), I r 106)
/-! the law's codes: what stands on the stack behind k of them -/
def t_by (w u v : Int32) : Int32 := if w = nI 2 then u + v else if w = nI 3 then u - v else if w = nI 4 then u * v else if w = nI 5 then (if v = nI 0 then nI 0 else if v = nM then -u else u / v) else if w = nI 6 then (if v = nI 0 ∨ v = nM then nI 0 else u - u / v * v) else if w = nI 7 then t_less u v else t_more u v
def t_ev (I : tI) (f : Nat → Int32) : Nat → List Int32
  | 0 => []
  | k + 1 => if I (200 + k) 0 = nI 0 then I (200 + k) 1 :: t_ev I f k else if I (200 + k) 0 = nI 1 then f (I (200 + k) 1).toNatClampNeg :: t_ev I f k else match t_ev I f k with
    | v :: u :: r => t_by (I (200 + k) 0) u v :: r
    | r => r
def t_lm (I : tI) : Nat := (I 0 27).toNatClampNeg
def t_law (I : tI) (f : Nat → Int32) : Int32 := if I 0 27 = nI 0 then nI 2 * f 0 - nI 3 * f 3 + f 8 else (t_ev I f (t_lm I)).headD (nI 0)
/-- the codes are those of a law -/
def t_dep (I : tI) : Nat → Nat
  | 0 => 0
  | k + 1 => if I (200 + k) 0 = nI 0 ∨ I (200 + k) 0 = nI 1 then t_dep I k + 1 else t_dep I k - 1
def t_lok (I : tI) : Prop := I 0 27 = nI (t_lm I) ∧ t_lm I ≤ 160 ∧ (∀ k, k < t_lm I → (∃ z, z ≤ 8 ∧ I (200 + k) 0 = nI z ∧ (2 ≤ z → 2 ≤ t_dep I k) ∧ (z = 1 → ∃ j, j < 9 ∧ I (200 + k) 1 = nI j))) ∧ (0 < t_lm I → t_dep I (t_lm I) = 1)
def tK (I : tI) : gK := (t_h I, t_p I, (fun h => if h < t_h I then I (110 + h) 0 else nI 0), (fun h => if h < t_h I then I (110 + h) 1 else nI 0), (fun h => if h < t_h I then I (110 + h) 2 else nI 0), (fun p => if p < t_p I then I (130 + p) 0 else nI 0), (fun p => if p < t_p I then I (130 + p) 1 else nI 0), (fun p => if p < t_p I then I 16 p else nI 0), I 12 3, t_law I)
theorem t_row_in {r : Nat} (h : t_row r) : r = 36 ∨ r = 37 ∨ r = 38 ∨ r = 39 ∨ r = 40 ∨ r = 640 ∨ r = 641 ∨ r = 642 := by
  have h1 : ∀ r, r < 643 → tL r = some (100, 107) → r = 36 ∨ r = 37 ∨ r = 38 ∨ r = 39 ∨ r = 40 ∨ r = 640 ∨ r = 641 ∨ r = 642 := by decide +kernel
  by_cases h2 : r < 643
  · exact h1 r h2 h
  · have e : ∀ n, n ≤ r → Nat.blt r n = false := fun n hn => by
      cases hb : Nat.blt r n with
      | false => rfl
      | true => exact absurd (Nat.le_of_ble_eq_true hb) (by omega)
    have h3 : tL r = none := by
      simp only [tL, e 100 (by omega), e 180 (by omega), e 200 (by omega), e 360 (by omega), e 400 (by omega), e 560 (by omega), e 600 (by omega), e 612 (by omega), e 620 (by omega), e 632 (by omega), e 640 (by omega), e 643 (by omega)]
    have h4 : tL r = some (100, 107) := h
    rw [h3] at h4
    cases h4
/-- the roles that what is told is read from -/
def t_fx (b : Nat) : Prop := b = 12 ∨ b = 16 ∨ (110 ≤ b ∧ b < 119) ∨ (130 ≤ b ∧ b < 138) ∨ (200 ≤ b ∧ b < 360)
theorem t_row_fx {r : Nat} (h : t_row r) : ¬ t_fx r := by
  have := t_row_in h
  unfold t_fx
  omega
theorem t_ev_eq {I J : tI} (h : ∀ k, k < 160 → J (200 + k) = I (200 + k)) (f : Nat → Int32) : ∀ n, n ≤ 160 → t_ev J f n = t_ev I f n
  | 0, _ => rfl
  | n + 1, hn => by
    unfold t_ev
    rw [t_ev_eq h f n (by omega), h n (by omega)]
theorem t_h_eq {I J : tI} (h : J 12 = I 12) : t_h J = t_h I := by unfold t_h; rw [h]
theorem t_p_eq {I J : tI} (h : J 12 = I 12) : t_p J = t_p I := by unfold t_p; rw [h]
theorem t_dep_eq {I J : tI} (h : ∀ k, k < 160 → J (200 + k) = I (200 + k)) : ∀ n, n ≤ 160 → t_dep J n = t_dep I n
  | 0, _ => rfl
  | n + 1, hn => by
    unfold t_dep
    rw [t_dep_eq h n (by omega), h n (by omega)]
theorem t_law_eq {I J : tI} (hl : t_lok I) (h : ∀ k, k < 160 → J (200 + k) = I (200 + k)) (h0 : J 0 27 = I 0 27) : t_law J = t_law I := by
  funext f
  have e : t_lm J = t_lm I := by unfold t_lm; rw [h0]
  unfold t_law
  rw [h0, e, t_ev_eq h f _ hl.2.1]
theorem t_lok_eq {I J : tI} (hl : t_lok I) (h : ∀ k, k < 160 → J (200 + k) = I (200 + k)) (h0 : J 0 27 = I 0 27) : t_lok J := by
  have e : t_lm J = t_lm I := by unfold t_lm; rw [h0]
  obtain ⟨h1, h2, h3, h4⟩ := hl
  refine ⟨by rw [h0, e]; exact h1, by rw [e]; exact h2, fun k hk => ?_, fun hk => ?_⟩
  · rw [e] at hk
    obtain ⟨z, a, b, c, d⟩ := h3 k hk
    rw [h k (by omega)]
    exact ⟨z, a, b, fun q => by rw [t_dep_eq h k (by omega)]; exact c q, d⟩
  · rw [e] at hk ⊢
    rw [t_dep_eq h _ h2]
    exact h4 hk
theorem tK_eq {I J : tI} (hok : t_ok I) (hl : t_lok I) (h : ∀ b, t_fx b → J b = I b) (h0 : J 0 27 = I 0 27) : tK J = tK I := by
  have h12 : J 12 = I 12 := h 12 (Or.inl rfl)
  have h16 : J 16 = I 16 := h 16 (Or.inr (Or.inl rfl))
  have h2 : t_law J = t_law I := t_law_eq hl (fun k hk => h _ (by unfold t_fx; omega)) h0
  obtain ⟨-, h9, -, h8, -⟩ := hok
  unfold tK
  rw [t_h_eq h12, t_p_eq h12, h12, h16, h2]
  have a : ∀ k i, k < t_h I → J (110 + k) i = I (110 + k) i := fun k i hk => by rw [h _ (by unfold t_fx; omega)]
  have c : ∀ k i, k < t_p I → J (130 + k) i = I (130 + k) i := fun k i hk => by rw [h _ (by unfold t_fx; omega)]
  have a' : ∀ i, (fun k => if k < t_h I then J (110 + k) i else nI 0) = (fun k => if k < t_h I then I (110 + k) i else nI 0) := fun i => by
    funext k
    by_cases hk : k < t_h I
    · rw [if_pos hk, if_pos hk, a k i hk]
    · rw [if_neg hk, if_neg hk]
  have c' : ∀ i, (fun k => if k < t_p I then J (130 + k) i else nI 0) = (fun k => if k < t_p I then I (130 + k) i else nI 0) := fun i => by
    funext k
    by_cases hk : k < t_p I
    · rw [if_pos hk, if_pos hk, c k i hk]
    · rw [if_neg hk, if_neg hk]
  rw [a' 0, a' 1, a' 2, c' 0, c' 1]
/-- equal troupes, part by part -/
theorem g_ext {T U : gT} (h1 : ∀ p, T.1 p = U.1 p) (h2 : ∀ p, T.2.1 p = U.2.1 p) (h3 : ∀ p, T.2.2.1 p = U.2.2.1 p) (h4 : ∀ h p, T.2.2.2.1 h p = U.2.2.2.1 h p) (h5 : ∀ h, T.2.2.2.2.1 h = U.2.2.2.2.1 h) (h6 : ∀ h, T.2.2.2.2.2.1 h = U.2.2.2.2.2.1 h) (h7 : T.2.2.2.2.2.2 = U.2.2.2.2.2.2) : T = U := by
  obtain ⟨a, b, c, d, e, f, g⟩ := T
  obtain ⟨a', b', c', d', e', f', g'⟩ := U
  have e1 : a = a' := funext h1
  have e2 : b = b' := funext h2
  have e3 : c = c' := funext h3
  have e4 : d = d' := funext fun h => funext (h4 h)
  have e5 : e = e' := funext h5
  have e6 : f = f' := funext h6
  have e7 : g = g' := h7
  rw [e1, e2, e3, e4, e5, e6, e7]
theorem tA_eq {I J : tI} {r r' : Nat} (h : ∀ k, k < 107 → J r' k = I r k) : tA J r' = tA I r := by
  refine g_ext (fun p => ?_) (fun p => ?_) (fun p => ?_) (fun a p => ?_) (fun a => ?_) (fun a => ?_) ?_
  · show (if p < 8 then _ else _) = (if p < 8 then _ else _)
    split
    · exact h _ (by omega)
    · rfl
  · show (if p < 8 then _ else _) = (if p < 8 then _ else _)
    split
    · exact h _ (by omega)
    · rfl
  · show (if p < 8 then _ else _) = (if p < 8 then _ else _)
    split
    · exact h _ (by omega)
    · rfl
  · show (if a < 9 ∧ p < 8 then _ else _) = (if a < 9 ∧ p < 8 then _ else _)
    split
    · exact h _ (by omega)
    · rfl
  · show (if a < 9 then _ else _) = (if a < 9 then _ else _)
    split
    · exact h _ (by omega)
    · rfl
  · show (if a < 9 then _ else _) = (if a < 9 then _ else _)
    split
    · rw [h 0 (by omega)]
    · rfl
  · exact h _ (by omega)
/-- one place of a row is written -/
theorem tA_w {I : tI} {r p : Nat} {v : Int32} (hp : p < 8) : tA (xm_u2 I r (1 + p) v) r = (g_upd (tA I r).1 p v, (tA I r).2) := by
  refine g_ext (fun q => ?_) (fun q => ?_) (fun q => ?_) (fun a q => ?_) (fun a => ?_) (fun a => ?_) ?_ <;> simp only [tA, xm_u2, g_upd, true_and] <;> grind
theorem tA_s {I : tI} {r p : Nat} {v : Int32} (hp : p < 8) : tA (xm_u2 I r (9 + p) v) r = g_str (tA I r) p v := by
  refine g_ext (fun q => ?_) (fun q => ?_) (fun q => ?_) (fun a q => ?_) (fun a => ?_) (fun a => ?_) ?_ <;> simp only [tA, xm_u2, g_upd, g_str, true_and] <;> grind
theorem tA_l {I : tI} {r p : Nat} {v : Int32} (hp : p < 8) : tA (xm_u2 I r (17 + p) v) r = ((tA I r).1, (tA I r).2.1, g_upd (tA I r).2.2.1 p v, (tA I r).2.2.2) := by
  refine g_ext (fun q => ?_) (fun q => ?_) (fun q => ?_) (fun a q => ?_) (fun a => ?_) (fun a => ?_) ?_ <;> simp only [tA, xm_u2, g_upd, true_and] <;> grind
theorem tA_i {I : tI} {r h p : Nat} {v : Int32} (hh : h < 9) (hp : p < 8) : tA (xm_u2 I r (25 + 8 * h + p) v) r = ((tA I r).1, (tA I r).2.1, (tA I r).2.2.1, (fun a q => if a = h ∧ q = p then v else gsi (tA I r) a q), (tA I r).2.2.2.2) := by
  refine g_ext (fun q => ?_) (fun q => ?_) (fun q => ?_) (fun a q => ?_) (fun a => ?_) (fun a => ?_) ?_ <;> simp only [tA, xm_u2, gsi, true_and] <;> grind
theorem tA_c {I : tI} {r h : Nat} {v : Int32} (hh : h < 9) : tA (xm_u2 I r (97 + h) v) r = g_cho (tA I r) h v := by
  refine g_ext (fun q => ?_) (fun q => ?_) (fun q => ?_) (fun a q => ?_) (fun a => ?_) (fun a => ?_) ?_ <;> simp only [tA, xm_u2, g_upd, g_cho, true_and] <;> grind
theorem tA_y {I : tI} {r : Nat} {v : Int32} : tA (xm_u2 I r 106 v) r = g_year (tA I r) v := by
  refine g_ext (fun q => ?_) (fun q => ?_) (fun q => ?_) (fun a q => ?_) (fun a => ?_) (fun a => ?_) ?_ <;> simp only [tA, xm_u2, g_year, true_and] <;> grind
theorem tK_n {I : tI} : gn (tK I) = t_h I := rfl
theorem tK_m {I : tI} : gm (tK I) = t_p I := rfl
theorem tK_limp {I : tI} {h : Nat} (hh : h < t_h I) : glimp (tK I) h = I (110 + h) 0 := by simp [glimp, tK, hh]
theorem tK_born {I : tI} {h : Nat} (hh : h < t_h I) : gborn (tK I) h = I (110 + h) 1 := by simp [gborn, tK, hh]
theorem tK_dies {I : tI} {h : Nat} (hh : h < t_h I) : gdies (tK I) h = I (110 + h) 2 := by simp [gdies, tK, hh]
theorem tK_fall {I : tI} {p : Nat} (hp : p < t_p I) : gfall (tK I) p = I (130 + p) 0 := by simp [gfall, tK, hp]
theorem tK_needs {I : tI} {p : Nat} (hp : p < t_p I) : gneeds (tK I) p = I (130 + p) 1 := by simp [gneeds, tK, hp]
theorem tK_quar {I : tI} {p : Nat} (hp : p < t_p I) : gquar (tK I) p = I 16 p := by simp [gquar, tK, hp]
theorem tK_wear {I : tI} : gwear (tK I) = I 12 3 := rfl
theorem tK_law {I : tI} : glaw (tK I) = t_law I := rfl
theorem t_by2 (u v : Int32) : t_by (nI 2) u v = u + v := if_pos rfl
theorem t_by3 (u v : Int32) : t_by (nI 3) u v = u - v := by unfold t_by; rw [if_neg (by decide +kernel), if_pos rfl]
theorem t_by4 (u v : Int32) : t_by (nI 4) u v = u * v := by unfold t_by; rw [if_neg (by decide +kernel), if_neg (by decide +kernel), if_pos rfl]
theorem t_by5 (u v : Int32) : t_by (nI 5) u v = if v = nI 0 then nI 0 else if v = nM then -u else u / v := by unfold t_by; rw [if_neg (by decide +kernel), if_neg (by decide +kernel), if_neg (by decide +kernel), if_pos rfl]
theorem t_by6 (u v : Int32) : t_by (nI 6) u v = if v = nI 0 ∨ v = nM then nI 0 else u - u / v * v := by unfold t_by; rw [if_neg (by decide +kernel), if_neg (by decide +kernel), if_neg (by decide +kernel), if_neg (by decide +kernel), if_pos rfl]
theorem t_by7 (u v : Int32) : t_by (nI 7) u v = t_less u v := by unfold t_by; rw [if_neg (by decide +kernel), if_neg (by decide +kernel), if_neg (by decide +kernel), if_neg (by decide +kernel), if_neg (by decide +kernel), if_pos rfl]
theorem t_by8 (u v : Int32) : t_by (nI 8) u v = t_more u v := by unfold t_by; rw [if_neg (by decide +kernel), if_neg (by decide +kernel), if_neg (by decide +kernel), if_neg (by decide +kernel), if_neg (by decide +kernel), if_neg (by decide +kernel)]
theorem tlaw_u {I : tI} {a k : Nat} {v : Int32} (ha : a < 100 ∧ a ≠ 0) : t_law (xm_u2 I a k v) = t_law I := by
  have h : ∀ n f, t_ev (xm_u2 I a k v) f n = t_ev I f n := by
    intro n f
    induction n with
    | zero => rfl
    | succ n ih =>
      unfold t_ev
      rw [ih, show xm_u2 I a k v (200 + n) = I (200 + n) from funext fun j => xm_u2_ne (by omega) j]
  funext f
  have e : xm_u2 I a k v 0 27 = I 0 27 := xm_u2_ne (by omega) _
  unfold t_law t_lm
  rw [e, h]
theorem tK_u {I : tI} {a k : Nat} {v : Int32} (ha : a < 100 ∧ a ≠ 0 ∧ a ≠ 12 ∧ a ≠ 16) : tK (xm_u2 I a k v) = tK I := by
  have e : ∀ b, b ≠ a → xm_u2 I a k v b = I b := fun b hb => funext fun j => xm_u2_ne hb j
  have h12 := e 12 (by omega)
  unfold tK
  rw [t_h_eq h12, t_p_eq h12, h12, e 16 (by omega), tlaw_u (by omega)]
  have a1 : ∀ h, xm_u2 I a k v (110 + h) = I (110 + h) := fun h => e _ (by omega)
  have a2 : ∀ h, xm_u2 I a k v (130 + h) = I (130 + h) := fun h => e _ (by omega)
  simp only [a1, a2]
theorem tA_u {I : tI} {a k r : Nat} {v : Int32} (h : r ≠ a) : tA (xm_u2 I a k v) r = tA I r := tA_eq fun k _ => xm_u2_ne h _

/-! ===== the component's world: role 0 the object, 1 what is told, 5 6 7 the troupes, 10 to 12 the images, 40 the list of acts; X: what lies at 1000 and beyond ===== -/
set_option maxRecDepth 100000
/-- how many acts, the list's room, how many images, the law's root -/
abbrev cP : Type := Nat × Nat × Nat × Nat
abbrev cX : Type := (Nat → Option (Nat × Nat)) × (Nat → Nat → Option Nat)
def cLa : List (Option (Nat × Nat)) := [some (0, 22), some (1, 15), some (100, 9), some (100, 36), some (100, 2), some (7, 8), some (7, 8), some (7, 8), some (111, 3), none, none, none, none, none, none, none, some (101, 600), some (100, 6), some (100, 6), none, some (100, 488), some (100, 9), none, none, none, none, none, none, none, none, some (100, 9), some (100, 9), some (100, 9), some (100, 9), some (100, 81), some (100, 8), some (100, 8), some (100, 8), some (100, 8), some (100, 8), some (18, 3)]
def cLt (k : Nat) : Option (Nat × Nat) := match k with
  | 0 => some (100, 9)
  | 1 => some (100, 8)
  | 2 => some (100, 8)
  | 3 => some (100, 8)
  | 4 => some (100, 72)
  | 5 => some (100, 9)
  | _ => none
def cL (P : cP) (a : Nat) : Option (Nat × Nat) := match Nat.blt a 10 with
  | true => (cLa[a]?).join
  | false => match Nat.blt a 13 with
    | true => match Nat.blt (a - 10) P.2.2.1 with
      | true => some (7, 8)
      | false => none
    | false => match Nat.blt a 41 with
      | true => (cLa[a]?).join
      | false => match Nat.blt a 42 with
        | true => some (112, P.2.1)
        | false => match Nat.blt a 80 with
          | true => match Nat.blt a 50 with
            | true => none
            | false => cLt (a % 10)
          | false => match Nat.blt a 90 with
            | true => match Nat.blt (a - 80) P.1 with
              | true => some (11, 4)
              | false => none
            | false => match Nat.blt a 100 with
              | true => match Nat.blt (a - 90) P.1 with
                | true => some (100, 6)
                | false => none
              | false => match Nat.blt a 130 with
                | true => match Nat.blt ((a - 100) / 10) P.2.2.1 with
                  | true => cLt (a % 10)
                  | false => none
                | false => none
def cRt (r k : Nat) : Option Nat := match Nat.beq k 7 with
  | true => some 0
  | false => some (10 * r + k)
def cR (P : cP) (a k : Nat) : Option Nat := match a with
  | 0 => match k with
    | 0 => some 1
    | 1 => some P.2.2.2
    | _ => some k
  | 1 => some (30 + k)
  | 8 => match Nat.blt k P.2.2.1 with
    | true => some (10 + k)
    | false => none
  | 40 => some 41
  | 41 => match Nat.blt k P.1 with
    | true => some (80 + k)
    | false => none
  | a => match Nat.blt a 13 with
    | true => cRt a k
    | false => match Nat.blt a 90 with
      | true => some (a + 10)
      | false => none
def cW (P : cP) (X : cX) (I : tI) : xW := (fun a => match Nat.blt a 1000 with | true => cL P a | false => X.1 a, I, fun a k => match Nat.blt a 1000 with | true => cR P a k | false => X.2 a k, fun _ _ => 0)
theorem cW_i (P : cP) (X : cX) (I : tI) : (cW P X I).2.1 = I := rfl
theorem c_si (P : cP) (X : cX) (I : tI) (a k : Nat) (v : Int32) : xm_si (cW P X I) a k v = cW P X (xm_u2 I a k v) := rfl
abbrev cS : Type := List Value → cP → cX → tI → (Option Value → tI → Prop) → (Nat → Nat → tI → Prop) → Prop
def cU (S : cS) : xS := fun as w Q QX => ∃ P X I, w = cW P X I ∧ S as P X I (fun v I' => Q v (cW P X I')) (fun x a I' => QX x a (cW P X I'))
theorem c_qn {Q : Option Value → xW → Prop} {o : Option Value} {P : cP} {X : cX} {I I' : tI} (h : Q o (cW P X I)) (e : I' = I) : Q o (cW P X I') := by rw [e]; exact h
/-- a troupe's role -/
def c_tr (P : cP) (r : Nat) : Prop := r = 5 ∨ r = 6 ∨ r = 7 ∨ (10 ≤ r ∧ r < 13 ∧ r < 10 + P.2.2.1)
theorem c_blt {a b : Nat} (h : a < b) : Nat.blt a b = true := Nat.blt_eq.mpr h
theorem c_bge {a b : Nat} (h : b ≤ a) : Nat.blt a b = false := by
  cases e : Nat.blt a b with
  | false => rfl
  | true => exact absurd (Nat.blt_eq.mp e) (by omega)
theorem c_lay {P : cP} {X : cX} {I : tI} {a : Nat} (h : a < 1000) : (cW P X I).1 a = cL P a := by
  show (match Nat.blt a 1000 with | true => cL P a | false => X.1 a) = _
  rw [c_blt h]
theorem c_tl {P : cP} {X : cX} {I : tI} {r : Nat} (h : c_tr P r) : (cW P X I).1 r = some (7, 8) := by
  rcases h with rfl | rfl | rfl | ⟨h1, h2, h3⟩
  · rfl
  · rfl
  · rfl
  · rw [c_lay (by omega)]
    unfold cL
    rw [c_bge h1, c_blt h2, c_blt (show r - 10 < P.2.2.1 by omega)]
theorem c_tk {P : cP} {X : cX} {I : tI} {r k : Nat} (h : c_tr P r) (hk : k < 6) : (cW P X I).1 (10 * r + k) = cLt k := by
  have : k = 0 ∨ k = 1 ∨ k = 2 ∨ k = 3 ∨ k = 4 ∨ k = 5 := by omega
  rcases h with rfl | rfl | rfl | ⟨h1, h2, h3⟩
  · rcases this with rfl | rfl | rfl | rfl | rfl | rfl <;> rfl
  · rcases this with rfl | rfl | rfl | rfl | rfl | rfl <;> rfl
  · rcases this with rfl | rfl | rfl | rfl | rfl | rfl <;> rfl
  · rw [c_lay (by omega)]
    unfold cL
    rw [c_bge (show 10 ≤ 10 * r + k by omega), c_bge (show 13 ≤ 10 * r + k by omega), c_bge (show 41 ≤ 10 * r + k by omega), c_bge (show 42 ≤ 10 * r + k by omega), c_bge (show 80 ≤ 10 * r + k by omega), c_bge (show 90 ≤ 10 * r + k by omega), c_bge (show 100 ≤ 10 * r + k by omega), c_blt (show 10 * r + k < 130 by omega), c_blt (show (10 * r + k - 100) / 10 < P.2.2.1 by omega), show (10 * r + k) % 10 = k by omega]
theorem c_t0 {P : cP} {X : cX} {I : tI} {r : Nat} (h : c_tr P r) : (cW P X I).1 (10 * r + 0) = some (100, 9) := c_tk h (by decide)
theorem c_t1 {P : cP} {X : cX} {I : tI} {r : Nat} (h : c_tr P r) : (cW P X I).1 (10 * r + 1) = some (100, 8) := c_tk h (by decide)
theorem c_t2 {P : cP} {X : cX} {I : tI} {r : Nat} (h : c_tr P r) : (cW P X I).1 (10 * r + 2) = some (100, 8) := c_tk h (by decide)
theorem c_t3 {P : cP} {X : cX} {I : tI} {r : Nat} (h : c_tr P r) : (cW P X I).1 (10 * r + 3) = some (100, 8) := c_tk h (by decide)
theorem c_t4 {P : cP} {X : cX} {I : tI} {r : Nat} (h : c_tr P r) : (cW P X I).1 (10 * r + 4) = some (100, 72) := c_tk h (by decide)
theorem c_t5 {P : cP} {X : cX} {I : tI} {r : Nat} (h : c_tr P r) : (cW P X I).1 (10 * r + 5) = some (100, 9) := c_tk h (by decide)
theorem c_tf {P : cP} {X : cX} {I : tI} {r k : Nat} (h : c_tr P r) (hk : k ≠ 7) : xm_fld (cW P X I) r k 1 = .ref (10 * r + k) := by
  have e : (cW P X I).2.2.1 r k = some (10 * r + k) := by
    have e1 : cRt r k = some (10 * r + k) := by
      unfold cRt
      cases q : Nat.beq k 7 with
      | true => exact absurd (Nat.eq_of_beq_eq_true q) hk
      | false => rfl
    show (match Nat.blt r 1000 with | true => cR P r k | false => X.2 r k) = _
    rcases h with rfl | rfl | rfl | ⟨h1, h2, h3⟩
    · exact e1
    · exact e1
    · exact e1
    · rw [c_blt (show r < 1000 by omega)]
      have : r = 10 ∨ r = 11 ∨ r = 12 := by omega
      rcases this with rfl | rfl | rfl <;> exact e1
  show va_rf ((cW P X I).2.2.1 r k) = _
  rw [e]
  rfl
theorem c_t7 {P : cP} {X : cX} {I : tI} {r : Nat} (h : c_tr P r) : xm_fld (cW P X I) r 7 1 = .ref 0 := by
  have e : (cW P X I).2.2.1 r 7 = some 0 := by
    show (match Nat.blt r 1000 with | true => cR P r 7 | false => X.2 r 7) = _
    rcases h with rfl | rfl | rfl | ⟨h1, h2, h3⟩
    · rfl
    · rfl
    · rfl
    · rw [c_blt (show r < 1000 by omega)]
      have : r = 10 ∨ r = 11 ∨ r = 12 := by omega
      rcases this with rfl | rfl | rfl <;> rfl
  show va_rf ((cW P X I).2.2.1 r 7) = _
  rw [e]
  rfl
theorem c_tr_lt {P : cP} {r : Nat} (h : c_tr P r) : 5 ≤ r ∧ r < 13 ∧ r ≠ 8 ∧ r ≠ 9 := by
  rcases h with rfl | rfl | rfl | ⟨h1, h2, h3⟩ <;> omega
/-! what is told -/
def c_h (I : tI) : Nat := (I 1 11).toNatClampNeg
def c_p (I : tI) : Nat := (I 1 12).toNatClampNeg
def c_ok (I : tI) : Prop := I 1 11 = nI (c_h I) ∧ c_h I ≤ 9 ∧ I 1 12 = nI (c_p I) ∧ c_p I ≤ 8
/-- a troupe of the component as a troupe -/
def cA (I : tI) (r : Nat) : gT := ((fun p => if p < 8 then I (10 * r + 1) p else nI 0), (fun p => if p < 8 then I (10 * r + 3) p else nI 0), (fun p => if p < 8 then I (10 * r + 2) p else nI 0), (fun h p => if h < 9 ∧ p < 8 then I (10 * r + 4) (8 * h + p) else nI 0), (fun h => if h < 9 then I (10 * r + 5) h else nI 0), (fun h => if h < 9 then decide (I (10 * r) h = nI 2) else false), I r 6)

/-! ===== texts, pure ===== -/
set_option maxRecDepth 100000
/-- the byte at k of n -/
def p_at (f : Nat → Int32) (n k : Nat) : Int32 := if k < n then f k else nM
theorem p_at_t {f : Nat → Int32} {n k : Nat} (h : k < n) : p_at f n k = f k := if_pos h
theorem p_at_f {f : Nat → Int32} {n k : Nat} (h : ¬ k < n) : p_at f n k = nM := if_neg h
def p_skF (q : Int32 → Bool) (f : Nat → Int32) : Nat → Nat → Nat
  | 0, k => k
  | u + 1, k => if q (f k) = true then p_skF q f u (k + 1) else k
/-- past those that q takes -/
def p_sk (q : Int32 → Bool) (f : Nat → Int32) (n k : Nat) : Nat := p_skF q f (n - k) k
theorem p_sk_t {q : Int32 → Bool} {f : Nat → Int32} {n k : Nat} (h : k < n) (hq : q (f k) = true) : p_sk q f n k = p_sk q f n (k + 1) := by
  unfold p_sk
  rw [show n - k = (n - (k + 1)) + 1 by omega]
  exact if_pos hq
theorem p_sk_f {q : Int32 → Bool} {f : Nat → Int32} {n k : Nat} (hq : k < n → q (f k) = false) : p_sk q f n k = k := by
  unfold p_sk
  cases e : n - k with
  | zero => rfl
  | succ u => exact if_neg (by rw [hq (by omega)]; exact fun z => by cases z)
theorem p_sk_in {q : Int32 → Bool} {f : Nat → Int32} {n : Nat} : ∀ {u k : Nat}, n - k ≤ u → k ≤ n → k ≤ p_sk q f n k ∧ p_sk q f n k ≤ n ∧ (p_sk q f n k < n → q (f (p_sk q f n k)) = false)
  | 0, k, h, hk => by
    rw [p_sk_f (fun z => by omega)]
    exact ⟨Nat.le_refl _, hk, fun z => by omega⟩
  | u + 1, k, h, hk => by
    by_cases c : k < n ∧ q (f k) = true
    · rw [p_sk_t c.1 c.2]
      have := p_sk_in (q := q) (f := f) (n := n) (u := u) (k := k + 1) (by omega) (by omega)
      exact ⟨by omega, this.2⟩
    · have c2 : k < n → q (f k) = false := fun z => by
        cases e : q (f k) with
        | false => rfl
        | true => exact absurd ⟨z, e⟩ c
      rw [p_sk_f c2]
      exact ⟨Nat.le_refl _, hk, c2⟩
def p_isb (c : Int32) : Bool := decide (c = nI 32)
def p_bl (f : Nat → Int32) (n k : Nat) : Nat := p_sk p_isb f n k
/-- behind the letters -/
def p_le (f : Nat → Int32) (n k : Nat) : Nat := p_sk t_let f n k
theorem p_bl_in {f : Nat → Int32} {n k : Nat} (h : k ≤ n) : k ≤ p_bl f n k ∧ p_bl f n k ≤ n := ⟨(p_sk_in (Nat.le_refl _) h).1, (p_sk_in (Nat.le_refl _) h).2.1⟩
theorem p_le_in {f : Nat → Int32} {n k : Nat} (h : k ≤ n) : k ≤ p_le f n k ∧ p_le f n k ≤ n := ⟨(p_sk_in (Nat.le_refl _) h).1, (p_sk_in (Nat.le_refl _) h).2.1⟩
def p_let (c : Int32) : Nat := c.toNatClampNeg - 96
/-- the letters from k on -/
def p_ls (f : Nat → Int32) (n k : Nat) : List Nat := (List.range (p_le f n k - k)).map fun i => p_let (f (k + i))
theorem p_ls_t {f : Nat → Int32} {n k : Nat} (h : k < n) (hq : t_let (f k) = true) : p_ls f n k = p_let (f k) :: p_ls f n (k + 1) := by
  unfold p_ls
  have e : p_le f n k = p_le f n (k + 1) := p_sk_t h hq
  have h2 := p_le_in (f := f) (n := n) (k := k + 1) (by omega)
  rw [e, show p_le f n (k + 1) - k = (p_le f n (k + 1) - (k + 1)) + 1 by omega, List.range_succ_eq_map]
  simp only [List.map_cons, List.map_map, Nat.add_zero]
  congr 1
  refine List.map_congr_left fun i _ => ?_
  show p_let (f (k + (i + 1))) = p_let (f (k + 1 + i))
  rw [show k + (i + 1) = k + 1 + i by omega]
theorem p_ls_f {f : Nat → Int32} {n k : Nat} (hq : k < n → t_let (f k) = false) : p_ls f n k = [] := by
  unfold p_ls
  have e : p_le f n k = k := p_sk_f hq
  rw [e]
  simp
theorem p_ls_n {f : Nat → Int32} {n k : Nat} : (p_ls f n k).length = p_le f n k - k := by simp [p_ls]
theorem t_let_nM : t_let nM = false := by decide +kernel
theorem t_dig_nM : t_dig nM = false := by decide +kernel
theorem t_let_of {c : Int32} (h : t_let c = true) : ∃ d, 1 ≤ d ∧ d ≤ 26 ∧ c = nI (d + 96) := by
  unfold t_let at h
  simp at h
  obtain ⟨h1, h2⟩ := h
  obtain ⟨k, hk, rfl⟩ := nI_of (x := c) (fun q => absurd (Int32.le_trans (show nI 0 ≤ nI 97 by decide +kernel) h1) (Int32.not_le.mpr q))
  rw [nI_leI (by omega) hk] at h1
  rw [nI_leI hk (by omega)] at h2
  exact ⟨k - 96, by omega, by omega, by rw [Nat.sub_add_cancel (by omega)]⟩
theorem p_let_of {d : Nat} (h : d ≤ 26) : p_let (nI (d + 96)) = d := by
  unfold p_let
  rw [nI_clamp (by omega)]
  omega
theorem p_ls_in {f : Nat → Int32} {n : Nat} : ∀ {u k d : Nat}, n - k ≤ u → k ≤ n → d ∈ p_ls f n k → 1 ≤ d ∧ d ≤ 26
  | 0, k, d, h, hk, hd => by
    rw [p_ls_f (fun z => by omega)] at hd
    cases hd
  | u + 1, k, d, h, hk, hd => by
    by_cases c : k < n ∧ t_let (f k) = true
    · rw [p_ls_t c.1 c.2] at hd
      rcases List.mem_cons.mp hd with rfl | hd
      · obtain ⟨d, h1, h2, e⟩ := t_let_of c.2
        rw [e, p_let_of h2]
        exact ⟨h1, h2⟩
      · exact p_ls_in (u := u) (by omega) (by omega) hd
    · rw [p_ls_f (fun z => by
        cases e : t_let (f k) with
        | false => rfl
        | true => exact absurd ⟨z, e⟩ c)] at hd
      cases hd
/-- words by 27s -/
def p_code (L : List Nat) : Nat := L.foldl (fun v d => 27 * v + d) 0
theorem p_code_a (L : List Nat) (d : Nat) : p_code (L ++ [d]) = 27 * p_code L + d := by simp [p_code]
theorem p_code_inj : ∀ (n : Nat) {L K : List Nat}, L.length ≤ n → (∀ d, d ∈ L → 1 ≤ d ∧ d ≤ 26) → (∀ d, d ∈ K → 1 ≤ d ∧ d ≤ 26) → p_code L = p_code K → L = K := by
  intro n
  induction n with
  | zero =>
    intro L K hn hL hK e
    have : L = [] := List.length_eq_zero_iff.mp (by omega)
    subst this
    rcases List.eq_nil_or_concat K with rfl | ⟨K, d, rfl⟩
    · rfl
    · rw [List.concat_eq_append] at e hK
      rw [p_code_a] at e
      have := hK d (by simp)
      have e0 : p_code [] = 0 := rfl
      omega
  | succ n ih =>
    intro L K hn hL hK e
    rcases List.eq_nil_or_concat L with rfl | ⟨L, a, rfl⟩
    · rcases List.eq_nil_or_concat K with rfl | ⟨K, d, rfl⟩
      · rfl
      · rw [List.concat_eq_append] at e hK
        rw [p_code_a] at e
        have := hK d (by simp)
        have e0 : p_code [] = 0 := rfl
        omega
    · rw [List.concat_eq_append] at e hL hn ⊢
      rw [p_code_a] at e
      have ha := hL a (by simp)
      rcases List.eq_nil_or_concat K with rfl | ⟨K, d, rfl⟩
      · have e0 : p_code [] = 0 := rfl
        omega
      · rw [List.concat_eq_append] at e hK ⊢
        rw [p_code_a] at e
        have hd := hK d (by simp)
        have e1 : a = d := by omega
        subst e1
        rw [ih (L := L) (K := K) (by simp at hn; omega) (fun d h => hL d (by simp [h])) (fun d h => hK d (by simp [h])) (by omega)]
theorem p_code_lt : ∀ (L : List Nat), (∀ d, d ∈ L → d ≤ 26) → p_code L < 27 ^ L.length := by
  intro L h
  have : ∀ (n : Nat) (L : List Nat), L.length = n → (∀ d, d ∈ L → d ≤ 26) → p_code L < 27 ^ n := by
    intro n
    induction n with
    | zero =>
      intro L hn _
      rw [List.length_eq_zero_iff.mp hn]
      decide
    | succ n ih =>
      intro L hn h
      rcases List.eq_nil_or_concat L with rfl | ⟨L, a, rfl⟩
      · simp at hn
      · rw [List.concat_eq_append] at h hn ⊢
        rw [p_code_a, Nat.pow_succ]
        have h1 := ih L (by simpa using hn) (fun d hd => h d (by simp [hd]))
        have h2 := h a (by simp)
        omega
  exact this _ L rfl h
/-- a fault, or an answer and a place -/
abbrev pR (α : Type) : Type := (Int32 × Nat) ⊕ (α × Nat)
abbrev pP : Type := (Int32 × Nat) ⊕ Nat
def p_go {α : Type} (p : pP) (g : Nat → pR α) : pR α := match p with
  | .inl e => .inl e
  | .inr k => g k
def p_st {α : Type} (r : pR α) : pP := match r with
  | .inl e => .inl e
  | .inr (_, k) => .inr k
def p_v (r : pR Int32) : Int32 := match r with
  | .inl _ => nI 0
  | .inr (v, _) => v
def p_dv (v c : Int32) : Int32 := if nI 10 * v + c - nI 48 ≤ Int32.ofNat 100000 then nI 10 * v + c - nI 48 else Int32.ofNat 100000
def p_nmF (f : Nat → Int32) : Nat → Nat → Int32 → Int32 × Nat
  | 0, k, v => (v, k)
  | u + 1, k, v => if t_dig (f k) = true then p_nmF f u (k + 1) (p_dv v (f k)) else (v, k)
def p_nm (f : Nat → Int32) (n k : Nat) (v : Int32) : Int32 × Nat := p_nmF f (n - k) k v
theorem p_nm_t {f : Nat → Int32} {n k : Nat} {v : Int32} (h : k < n) (hq : t_dig (f k) = true) : p_nm f n k v = p_nm f n (k + 1) (p_dv v (f k)) := by
  unfold p_nm
  rw [show n - k = (n - (k + 1)) + 1 by omega]
  exact if_pos hq
theorem p_nm_f {f : Nat → Int32} {n k : Nat} {v : Int32} (hq : k < n → t_dig (f k) = false) : p_nm f n k v = (v, k) := by
  unfold p_nm
  cases e : n - k with
  | zero => rfl
  | succ u => exact if_neg (by rw [hq (by omega)]; exact fun z => by cases z)
theorem p_nm_in {f : Nat → Int32} {n : Nat} : ∀ {u k : Nat} {v : Int32}, n - k ≤ u → k ≤ n → k ≤ (p_nm f n k v).2 ∧ (p_nm f n k v).2 ≤ n
  | 0, k, v, h, hk => by
    rw [p_nm_f (fun z => by omega)]
    exact ⟨Nat.le_refl _, hk⟩
  | u + 1, k, v, h, hk => by
    by_cases c : k < n ∧ t_dig (f k) = true
    · rw [p_nm_t c.1 c.2]
      have := p_nm_in (f := f) (n := n) (u := u) (k := k + 1) (v := p_dv v (f k)) (by omega) (by omega)
      omega
    · rw [p_nm_f (fun z => by
        cases e : t_dig (f k) with
        | false => rfl
        | true => exact absurd ⟨z, e⟩ c)]
      exact ⟨Nat.le_refl _, hk⟩
def p_number (f : Nat → Int32) (n : Nat) (lo hi : Int32) (k : Nat) : pR Int32 :=
  if t_dig (p_at f n (p_bl f n k)) = true then
    (if t_in (p_nm f n (p_bl f n k) (nI 0)).1 lo hi = true then .inr (p_nm f n (p_bl f n k) (nI 0)) else .inl (nI 2, p_bl f n k))
  else .inl (nI 1, p_bl f n k)
def p_sign (f : Nat → Int32) (n : Nat) (c : Int32) (k : Nat) : pP := if p_at f n (p_bl f n k) = c then .inr (p_bl f n k + 1) else .inl (nI 1, p_bl f n k)
/-- a state, and what goes on from it -/
def p_then (p : pP) (g : Nat → pP) : pP := match p with
  | .inl e => .inl e
  | .inr k => g k

/-! ===== casts, pure ===== -/
set_option maxRecDepth 100000
/-- puppets to be cast, in order, and what strings each must have -/
abbrev gP : Type := List (Nat × Int32)
def g_can (G : gG) (al used : Int32) (p : Nat) (s : Int32) : Bool := decide (t_ones s = gneeds (gGK G) p) && decide (s &&& (used ||| gquar (gGK G) p ||| (al ^^^ nM)) = nI 0) && !g_mutes G used s (gn (gGK G))
def g_sets (G : gG) (al used : Int32) (p : Nat) : Nat → List Int32
  | 0 => []
  | k + 1 => g_sets G al used p k ++ (if g_can G al used p (nI (k + 1)) = true then [nI (k + 1)] else [])
theorem g_sets_s {G : gG} {al used : Int32} {p k : Nat} : g_sets G al used p (k + 1) = g_sets G al used p k ++ (if g_can G al used p (nI (k + 1)) = true then [nI (k + 1)] else []) := rfl
def g_all (G : gG) : Nat := 2 ^ gn (gGK G) - 1
/-- all casts -/
def g_cs (G : gG) (T : gT) (al : Int32) : gP → Int32 → List (List Int32)
  | [], _ => [[]]
  | (p, l) :: r, used => if l ≤ gs T p then (g_sets G al used p (g_all G)).flatMap fun s => (g_cs G T al r (used ||| s)).map (s :: ·) else []
theorem g_cs_n {G : gG} {T : gT} {al used : Int32} : g_cs G T al [] used = [[]] := rfl
theorem g_cs_c {G : gG} {T : gT} {al used l : Int32} {p : Nat} {r : gP} : g_cs G T al ((p, l) :: r) used = if l ≤ gs T p then (g_sets G al used p (g_all G)).flatMap fun s => (g_cs G T al r (used ||| s)).map (s :: ·) else [] := rfl
theorem g_cs_len {G : gG} {T : gT} {al : Int32} : ∀ {P : gP} {used : Int32} {c : List Int32}, c ∈ g_cs G T al P used → c.length = P.length
  | [], used, c, h => by
    rw [g_cs_n] at h
    simp at h
    rw [h]
    rfl
  | (p, l) :: r, used, c, h => by
    rw [g_cs_c] at h
    split at h
    · rw [List.mem_flatMap] at h
      obtain ⟨s, -, h⟩ := h
      rw [List.mem_map] at h
      obtain ⟨c', h, rfl⟩ := h
      simp [g_cs_len h]
    · simp at h
/-- how many, all hands of all, the first, whom each reaches -/
abbrev gC : Type := Nat × Int32 × (Nat → Int32) × (Nat → Int32)
def g_un (c : List Int32) : Int32 := c.foldl (fun u s => u ||| s) (nI 0)
theorem g_un_a (c : List Int32) (s : Int32) : g_un (c ++ [s]) = g_un c ||| s := by simp [g_un]
def g_done (s : gC) (c : List Int32) : gC := (s.1 + 1, s.2.1 &&& g_un c, (if s.1 = 0 then fun k => c.getD k (nI 0) else s.2.2.1), fun k => s.2.2.2 k ||| c.getD k (nI 0))
def g_proc (one : Bool) (w : Nat) (L : List (List Int32)) : List (List Int32) := if one = true then (if w = 0 then L.take 1 else []) else L
def g_cast (one : Bool) (L : List (List Int32)) (s : gC) : gC := (g_proc one s.1 L).foldl g_done s
theorem g_done_n (L : List (List Int32)) (s : gC) : (L.foldl g_done s).1 = s.1 + L.length := by
  induction L generalizing s with
  | nil => rfl
  | cons c L ih =>
    rw [List.foldl_cons, ih]
    show s.1 + 1 + L.length = _
    simp
    omega
theorem g_cast_app (one : Bool) (A B : List (List Int32)) (s : gC) : g_cast one (A ++ B) s = g_cast one B (g_cast one A s) := by
  cases one with
  | false =>
    unfold g_cast g_proc
    simp
  | true =>
    cases A with
    | nil =>
      rw [List.nil_append]
      have : g_cast true [] s = s := by
        unfold g_cast g_proc
        simp
      rw [this]
    | cons a A =>
      by_cases h : s.1 = 0
      · have e1 : g_cast true ((a :: A) ++ B) s = g_done s a := by simp [g_cast, g_proc, h]
        have e2 : g_cast true (a :: A) s = g_done s a := by simp [g_cast, g_proc, h]
        rw [e1, e2]
        simp [g_cast, g_proc, g_done]
      · simp [g_cast, g_proc, h]
theorem g_cast_0 (one : Bool) (s : gC) : g_cast one [] s = s := by cases one <;> simp [g_cast, g_proc]
theorem g_cast_stop {L : List (List Int32)} {s : gC} (h : ¬ s.1 = 0) : g_cast true L s = s := by simp [g_cast, g_proc, h]
theorem g_cast_1 (one : Bool) {s : gC} (h : one = true → s.1 = 0) (c : List Int32) : g_cast one [c] s = g_done s c := by
  cases one with
  | false => simp [g_cast, g_proc]
  | true => simp [g_cast, g_proc, h rfl]
/-! how many at most -/
def c_cnt (q : Nat → Bool) : Nat → Nat
  | 0 => 0
  | k + 1 => c_cnt q k + (if q k = true then 1 else 0)
theorem c_cnt_s {q : Nat → Bool} {k : Nat} : c_cnt q (k + 1) = c_cnt q k + (if q k = true then 1 else 0) := rfl
theorem c_cnt_le {p q : Nat → Bool} {n : Nat} (h : ∀ k, k < n → p k = true → q k = true) : c_cnt p n ≤ c_cnt q n := by
  induction n with
  | zero => exact Nat.le_refl _
  | succ n ih =>
    have := ih fun k hk => h k (by omega)
    rw [c_cnt_s, c_cnt_s]
    by_cases e : p n = true
    · rw [if_pos e, if_pos (h n (by omega) e)]
      omega
    · rw [if_neg e]
      omega
theorem c_cnt_mono {q : Nat → Bool} {n m : Nat} (h : n ≤ m) : c_cnt q n ≤ c_cnt q m := by
  induction m with
  | zero =>
    have : n = 0 := by omega
    rw [this]
    exact Nat.le_refl _
  | succ m ih =>
    by_cases e : n = m + 1
    · rw [e]
      exact Nat.le_refl _
    · have := ih (by omega)
      rw [c_cnt_s]
      omega
theorem g_sets_cnt {G : gG} {al used : Int32} {p : Nat} : ∀ n, (g_sets G al used p n).length = c_cnt (fun k => g_can G al used p (nI (k + 1))) n
  | 0 => rfl
  | n + 1 => by
    rw [g_sets_s, List.length_append, g_sets_cnt n, c_cnt_s]
    by_cases c : g_can G al used p (nI (n + 1)) = true
    · rw [if_pos c, if_pos c]
      rfl
    · rw [if_neg c, if_neg c]
      rfl
theorem c_36 : c_cnt (fun k => decide (t_ones (nI (k + 1)) = nI 1)) 511 ≤ 36 ∧ c_cnt (fun k => decide (t_ones (nI (k + 1)) = nI 2)) 511 ≤ 36 := by decide +kernel
theorem c_28 : ∀ b, b < 9 → c_cnt (fun k => decide (t_ones (nI (k + 1)) = nI 1) && !t_has (nI (k + 1)) b) 511 ≤ 28 ∧ c_cnt (fun k => decide (t_ones (nI (k + 1)) = nI 2) && !t_has (nI (k + 1)) b) 511 ≤ 28 := by decide +kernel
theorem c_bit : ∀ k, k < 511 → t_ex 9 (t_has (nI (k + 1))) = true := by decide +kernel
/-- one or two hands each -/
def g_need (G : gG) : Prop := ∀ p, p < gm (gGK G) → gneeds (gGK G) p = nI 1 ∨ gneeds (gGK G) p = nI 2
theorem t_ex_e : ∀ {n : Nat} {p : Nat → Bool}, t_ex n p = true → ∃ k, k < n ∧ p k = true
  | 0, _, h => by simp [t_ex] at h
  | n + 1, p, h => by
    unfold t_ex at h
    rw [Bool.or_eq_true] at h
    rcases h with h | h
    · obtain ⟨k, h1, h2⟩ := t_ex_e h
      exact ⟨k, by omega, h2⟩
    · exact ⟨n, by omega, h⟩
theorem g_all_le {G : gG} (h : gn (gGK G) ≤ 9) : g_all G ≤ 511 := by
  unfold g_all
  have : 2 ^ gn (gGK G) ≤ 2 ^ 9 := Nat.pow_le_pow_right (by omega) h
  omega
theorem g_can_1 {G : gG} {al used s : Int32} {p : Nat} (h : g_can G al used p s = true) : t_ones s = gneeds (gGK G) p := by
  unfold g_can at h
  simp at h
  exact h.1.1
theorem g_can_2 {G : gG} {al used s : Int32} {p b : Nat} (hb : b < 32) (h : g_can G al used p s = true) (hu : t_has used b = true) : t_has s b = false := by
  unfold g_can at h
  simp at h
  have e := congrArg (fun x => t_has x b) h.1.2
  simp only [th_and hb, th_or hb, th_0 hb, hu, Bool.true_or, Bool.and_true] at e
  exact e
theorem g_sets_36 {G : gG} {al used : Int32} {p n : Nat} (hn : g_need G) (hp : p < gm (gGK G)) (h : n ≤ 511) : (g_sets G al used p n).length ≤ 36 := by
  rw [g_sets_cnt]
  refine Nat.le_trans (c_cnt_mono h) ?_
  rcases hn p hp with e | e
  · exact Nat.le_trans (c_cnt_le fun k _ q => by rw [← e]; exact decide_eq_true (g_can_1 q)) c_36.1
  · exact Nat.le_trans (c_cnt_le fun k _ q => by rw [← e]; exact decide_eq_true (g_can_1 q)) c_36.2
theorem g_sets_28 {G : gG} {al used : Int32} {p n b : Nat} (hn : g_need G) (hp : p < gm (gGK G)) (h : n ≤ 511) (hb : b < 9) (hu : t_has used b = true) : (g_sets G al used p n).length ≤ 28 := by
  rw [g_sets_cnt]
  refine Nat.le_trans (c_cnt_mono h) ?_
  rcases hn p hp with e | e
  · exact Nat.le_trans (c_cnt_le fun k _ q => by rw [← e, decide_eq_true (g_can_1 q), g_can_2 (by omega) q hu]; rfl) (c_28 b hb).1
  · exact Nat.le_trans (c_cnt_le fun k _ q => by rw [← e, decide_eq_true (g_can_1 q), g_can_2 (by omega) q hu]; rfl) (c_28 b hb).2
theorem len_fm {α β : Type} {B : Nat} {f : α → List β} : ∀ {l : List α}, (∀ a, a ∈ l → (f a).length ≤ B) → (l.flatMap f).length ≤ l.length * B
  | [], _ => by simp
  | a :: l, h => by
    rw [List.flatMap_cons, List.length_append, List.length_cons, Nat.succ_mul]
    have h1 := h a List.mem_cons_self
    have h2 := len_fm (l := l) fun x hx => h x (List.mem_cons_of_mem _ hx)
    omega
theorem g_sets_in {G : gG} {al used s : Int32} {p : Nat} : ∀ {n : Nat}, s ∈ g_sets G al used p n → ∃ k, k < n ∧ s = nI (k + 1) ∧ g_can G al used p s = true
  | 0, h => by simp [g_sets] at h
  | n + 1, h => by
    rw [g_sets_s, List.mem_append] at h
    rcases h with h | h
    · obtain ⟨k, h1, h2⟩ := g_sets_in h
      exact ⟨k, by omega, h2⟩
    · split at h
      · simp at h
        rw [h]
        exact ⟨n, by omega, rfl, by assumption⟩
      · simp at h
theorem g_sets_of {G : gG} {al used : Int32} {p k : Nat} : ∀ {n : Nat}, k < n → g_can G al used p (nI (k + 1)) = true → nI (k + 1) ∈ g_sets G al used p n
  | 0, h, _ => by omega
  | n + 1, h, hc => by
    rw [g_sets_s, List.mem_append]
    by_cases e : k = n
    · subst e
      rw [if_pos hc]
      exact Or.inr List.mem_cons_self
    · exact Or.inl (g_sets_of (by omega) hc)
theorem g_cs_28 {G : gG} {T : gT} {al : Int32} (hn : g_need G) (h9 : gn (gGK G) ≤ 9) : ∀ {P : gP} {used : Int32} {b : Nat}, (∀ q, q ∈ P → q.1 < gm (gGK G)) → b < 9 → t_has used b = true → (g_cs G T al P used).length ≤ 28 ^ P.length
  | [], used, b, _, _, _ => by simp [g_cs]
  | (p, l) :: r, used, b, hP, hb, hu => by
    rw [g_cs_c]
    split
    · refine Nat.le_trans (len_fm (B := 28 ^ r.length) fun s hs => ?_) ?_
      · rw [List.length_map]
        exact g_cs_28 hn h9 (fun q hq => hP q (List.mem_cons_of_mem _ hq)) hb (by rw [th_or (by omega), hu, Bool.true_or])
      · have := g_sets_28 (al := al) (used := used) (n := g_all G) hn (hP _ List.mem_cons_self) (g_all_le h9) hb hu
        rw [List.length_cons, Nat.pow_succ, Nat.mul_comm]
        exact Nat.mul_le_mul_left _ this
    · simp
theorem g_cs_lt {G : gG} {T : gT} {al used : Int32} {P : gP} (hn : g_need G) (h9 : gn (gGK G) ≤ 9) (hP : ∀ q, q ∈ P → q.1 < gm (gGK G)) (h6 : P.length ≤ 6) : (g_cs G T al P used).length ≤ 619573248 := by
  match P, hP, h6 with
  | [], _, _ => simp [g_cs]
  | (p, l) :: r, hP, h6 =>
    rw [g_cs_c]
    split
    · refine Nat.le_trans (len_fm (B := 28 ^ r.length) fun s hs => ?_) ?_
      · rw [List.length_map]
        obtain ⟨k, hk, rfl, -⟩ := g_sets_in hs
        obtain ⟨b, hb, hb2⟩ := t_ex_e (c_bit k (by have := g_all_le h9; omega))
        exact g_cs_28 hn h9 (fun q hq => hP q (List.mem_cons_of_mem _ hq)) hb (by rw [th_or (by omega), hb2, Bool.or_true])
      · have h1 := g_sets_36 (al := al) (used := used) (n := g_all G) hn (hP _ List.mem_cons_self) (g_all_le h9)
        have h2 : 28 ^ r.length ≤ 28 ^ 5 := Nat.pow_le_pow_right (by omega) (by simpa using h6)
        exact Nat.le_trans (Nat.mul_le_mul h1 h2) (by decide)
    · simp

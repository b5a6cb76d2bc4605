/-! ===== the reference: a year ===== -/
set_option maxRecDepth 100000
def t_nu (x : Int32) (n : Nat) : Nat := t_fold n (fun k c => c + if t_has x k = true then 0 else 1) 0
theorem t_nu_s (x : Int32) (n : Nat) : t_nu x (n + 1) = t_nu x n + if t_has x n = true then 0 else 1 := rfl
theorem t_nu_0 (x : Int32) : t_nu x 0 = 0 := rfl
theorem t_nu_le (x : Int32) (n : Nat) : t_nu x n ≤ n := by
  induction n with
  | zero => exact Nat.le_refl _
  | succ n ih =>
    rw [t_nu_s]
    split <;> omega
theorem t_nu_m {x : Int32} {h : Nat} (hh : h < 32) (n : Nat) (hn : n ≤ 32) : t_nu (x ||| t_bit h) n ≤ t_nu x n := by
  induction n with
  | zero =>
    rw [t_nu_0, t_nu_0]
    exact Nat.le_refl _
  | succ n ih =>
    have := ih (by omega)
    rw [t_nu_s, t_nu_s, th_or (by omega)]
    cases t_has x n
    · rw [Bool.false_or]
      split <;> simp <;> omega
    · simp
      exact this
theorem t_nu_l {x : Int32} {h : Nat} (hx : t_has x h = false) (n : Nat) (hn : n ≤ 32) (q : h < n) : t_nu (x ||| t_bit h) n < t_nu x n := by
  induction n with
  | zero => omega
  | succ n ih =>
    rw [t_nu_s, t_nu_s]
    by_cases e : h = n
    · subst e
      have := t_nu_m (x := x) (show h < 32 by omega) h (by omega)
      rw [th_or (by omega), hx, th_bit (by omega) (by omega)]
      simp
      omega
    · have := ih (by omega) (by omega)
      rw [th_or (by omega), th_bit (by omega) (by omega), decide_eq_false (by omega), Bool.or_false]
      split <;> omega
theorem g_best_may {K : gK} {T : gT} {p : Nat} : ∀ {n z : Nat}, g_best K T p n = some z → g_may K T p z = true
  | 0, z, h => by cases h
  | n + 1, z, h => by
    rw [g_best_s] at h
    cases hm : g_may K T p n with
    | false =>
      rw [hm] at h
      exact g_best_may (n := n) h
    | true =>
      rw [hm] at h
      generalize (true && (match g_best K T p n with | none => true | some z => decide (¬ g_score K T p n ≤ g_score K T p z))) = b at h
      cases b
      · exact g_best_may (n := n) h
      · cases h
        exact hm

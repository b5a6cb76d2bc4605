/-! ===== casts as the component goes through them, pure ===== -/
set_option maxRecDepth 100000
theorem c_mask {al used quar : Int32} : ((al &&& (used ^^^ nM)) &&& (quar ^^^ nM)) ^^^ nM = used ||| quar ||| (al ^^^ nM) := th_ext fun k hk => by
  simp only [th_and hk, th_or hk, th_not hk]
  cases t_has al k <;> cases t_has used k <;> cases t_has quar k <;> rfl
theorem th_z {x y : Int32} : x &&& y = nI 0 ↔ ∀ k, k < 32 → t_has x k = true → t_has y k = false := by
  constructor
  · intro h k hk hx
    have e := congrArg (fun z => t_has z k) h
    simp only [th_and hk, th_0 hk, hx, Bool.true_and] at e
    exact e
  · intro h
    refine th_ext fun k hk => ?_
    rw [th_and hk, th_0 hk]
    cases e : t_has x k with
    | false => rfl
    | true => rw [h k hk e]; rfl
theorem t_ex_n {n : Nat} {p : Nat → Bool} (h : t_ex n p = false) {k : Nat} (hk : k < n) : p k = false := by
  cases e : p k with
  | false => rfl
  | true => rw [t_ex_t hk e] at h; cases h
theorem t_ex_0 {n : Nat} {p : Nat → Bool} (h : ∀ k, k < n → p k = false) : t_ex n p = false := by
  cases e : t_ex n p with
  | false => rfl
  | true =>
    obtain ⟨k, hk, q⟩ := t_ex_e e
    rw [h k hk] at q
    cases q
theorem th_m9 {x : Int32} (h : t_m9 x) {k : Nat} (h9 : 9 ≤ k) (hk : k < 32) : t_has x k = false := by
  obtain ⟨n, hn, rfl⟩ := h
  have : ∀ n, n < 512 → ∀ k, k < 32 → 9 ≤ k → t_has (nI n) k = false := by decide +kernel
  exact this n hn k hk h9
theorem g_sil_z {G : gG} {x : Int32} : g_sil G x = false ↔ ∀ h, h < gn (gGK G) → t_has x h = true → ∀ g, g < 32 → t_has (gsil G h) g = true → t_has x g = false := by
  unfold g_sil
  constructor
  · intro e h hh hx
    have := t_ex_n e hh
    rw [hx, Bool.true_and, Bool.not_eq_false', decide_eq_true_eq] at this
    exact th_z.mp this
  · intro h
    refine t_ex_0 fun k hk => ?_
    cases e : t_has x k with
    | false => rfl
    | true => rw [Bool.true_and, decide_eq_true (th_z.mpr (h k hk e))]; rfl
theorem g_mutes_z {G : gG} {u s : Int32} : g_mutes G u s (gn (gGK G)) = false ↔ ∀ h, h < gn (gGK G) → t_has s h = true → ∀ g, g < 32 → t_has (gsil G h) g = true → t_has (u ||| s) g = false := by
  unfold g_mutes
  constructor
  · intro e h hh hx
    have := t_ex_n e hh
    rw [hx, Bool.true_and, Bool.not_eq_false', decide_eq_true_eq] at this
    exact th_z.mp this
  · intro h
    refine t_ex_0 fun k hk => ?_
    cases e : t_has s k with
    | false => rfl
    | true => rw [Bool.true_and, decide_eq_true (th_z.mpr (h k hk e))]; rfl
/-- whom the hands may be told of, with those used -/
theorem g_sil_mutes {G : gG} {u s : Int32} (hX : g_Xok G) (h9 : gn (gGK G) ≤ 9) (hu : g_sil G u = false) (hs : ∀ k, k < 32 → t_has s k = true → k < gn (gGK G)) : g_sil G (u ||| s) = g_mutes G u s (gn (gGK G)) := by
  suffices key : g_sil G (u ||| s) = false ↔ g_mutes G u s (gn (gGK G)) = false by
    cases e1 : g_sil G (u ||| s) with
    | false => exact (key.mp e1).symm
    | true =>
      cases e2 : g_mutes G u s (gn (gGK G)) with
      | true => rfl
      | false => rw [key.mpr e2] at e1; cases e1
  rw [g_sil_z] at hu ⊢
  rw [g_mutes_z]
  constructor
  · intro h k hk hx
    exact h k hk (by rw [th_or (by omega), hx, Bool.or_true])
  · intro h k hk hx g hg hkg
    rw [th_or (by omega), Bool.or_eq_true] at hx
    rcases hx with hx | hx
    · have h1 := hu k hk hx g hg hkg
      rw [th_or hg, h1, Bool.false_or]
      cases e : t_has s g with
      | false => rfl
      | true =>
        have hgn := hs g hg e
        have sym := hX.2.1 k g (by omega) (by omega)
        rw [hkg] at sym
        have := h g hgn e k (by omega) sym.symm
        rw [th_or (by omega), hx] at this
        cases this
    · exact h k hk hx g hg hkg
def c_flt (G : gG) (left used : Int32) (p : Nat) (s : Int32) : Bool := decide (s &&& ((left &&& (gquar (gGK G) p ^^^ nM)) ^^^ nM) = nI 0) && decide (t_ones s = gneeds (gGK G) p) && !g_sil G (used ||| s)
/-- who is left, of whom is alive, behind those used -/
def c_lu (G : gG) (al left used : Int32) : Prop := left = al &&& (used ^^^ nM) ∧ g_sil G used = false ∧ ∀ k, k < 32 → t_has al k = true → k < gn (gGK G)
theorem c_flt_eq {G : gG} {al left used s : Int32} {p : Nat} (hX : g_Xok G) (h9 : gn (gGK G) ≤ 9) (h : c_lu G al left used) : c_flt G left used p s = g_can G al used p s := by
  obtain ⟨rfl, hu, hal⟩ := h
  unfold c_flt g_can
  rw [c_mask]
  by_cases q : s &&& (used ||| gquar (gGK G) p ||| (al ^^^ nM)) = nI 0
  · rw [decide_eq_true q, Bool.true_and, Bool.and_true, g_sil_mutes hX h9 hu]
    intro k hk hs
    have := th_z.mp q k hk hs
    rw [th_or hk, th_not hk] at this
    cases e : t_has al k with
    | true => exact hal k hk e
    | false => simp [e] at this
  · rw [decide_eq_false q]
    simp only [Bool.false_and, Bool.and_false]
theorem c_lu.nx {G : gG} {al left used s : Int32} {p : Nat} (h : c_lu G al left used) (hc : c_flt G left used p s = true) : c_lu G al (left &&& (s ^^^ nM)) (used ||| s) := by
  obtain ⟨h1, h2, h3⟩ := h
  refine ⟨?_, ?_, h3⟩
  · rw [h1]
    refine th_ext fun k hk => ?_
    simp only [th_and hk, th_or hk, th_not hk]
    cases t_has al k <;> cases t_has used k <;> cases t_has s k <;> rfl
  · unfold c_flt at hc
    simp at hc
    exact hc.2
theorem c_hi : ∀ k, k < 511 → ∀ n, n < 10 → 2 ^ n ≤ k + 1 → t_ex 9 (fun b => decide (n ≤ b) && t_has (nI (k + 1)) b) = true := by decide +kernel
theorem g_sets_511 {G : gG} {al used : Int32} {p : Nat} (h9 : gn (gGK G) ≤ 9) (hal : ∀ k, k < 32 → t_has al k = true → k < gn (gGK G)) : g_sets G al used p 511 = g_sets G al used p (g_all G) := by
  have : ∀ k, g_all G ≤ k → k ≤ 511 → g_sets G al used p k = g_sets G al used p (g_all G) := by
    intro k
    induction k with
    | zero =>
      intro h _
      rw [show g_all G = 0 by omega]
    | succ k ih =>
      intro h hk
      by_cases e : g_all G = k + 1
      · rw [e]
      · rw [g_sets_s, ih (by omega) (by omega)]
        have hp : 0 < 2 ^ gn (gGK G) := Nat.pow_pos (by omega)
        obtain ⟨b, hb, hb2⟩ := t_ex_e (c_hi k (by omega) (gn (gGK G)) (by omega) (by unfold g_all at h e; omega))
        rw [Bool.and_eq_true, decide_eq_true_eq] at hb2
        have : g_can G al used p (nI (k + 1)) = false := by
          cases q : g_can G al used p (nI (k + 1)) with
          | false => rfl
          | true =>
            unfold g_can at q
            simp at q
            have q := th_z.mp q.1.2 b (by omega) hb2.2
            rw [th_or (by omega), th_not (by omega)] at q
            cases r : t_has al b with
            | false => simp [r] at q
            | true => exact absurd (hal b (by omega) r) (by omega)
        rw [this]
        simp
  exact this 511 (g_all_le h9) (Nat.le_refl _)
/-! strings are there -/
theorem g_cs_no {G : gG} {T : gT} {al : Int32} : ∀ {P : gP} {used : Int32}, (∃ q, q ∈ P ∧ ¬ q.2 ≤ gs T q.1) → g_cs G T al P used = []
  | [], _, ⟨q, h, _⟩ => by cases h
  | (p, l) :: r, used, ⟨q, h, hn⟩ => by
    rw [g_cs_c]
    by_cases e : l ≤ gs T p
    · rw [if_pos e]
      have hr : ∃ q, q ∈ r ∧ ¬ q.2 ≤ gs T q.1 := by
        rcases List.mem_cons.mp h with h | h
        · subst h
          exact absurd e hn
        · exact ⟨q, h, hn⟩
      have : (fun s => (g_cs G T al r (used ||| s)).map (s :: ·)) = fun _ => [] := funext fun s => by rw [g_cs_no hr]; rfl
      rw [this]
      simp
    · rw [if_neg e]
/-! at most so many are counted -/
abbrev cC : Type := Nat × (Nat → Int32)
def c_do (most : Nat) (s : cC) (c : List Int32) : cC := if most ≤ s.1 then s else (s.1 + 1, if s.1 = 0 then fun k => c.getD k (nI 0) else s.2)
def c_run (most : Nat) (L : List (List Int32)) (s : cC) : cC := L.foldl (c_do most) s
theorem c_run_app {most : Nat} {A B : List (List Int32)} {s : cC} : c_run most (A ++ B) s = c_run most B (c_run most A s) := List.foldl_append
theorem c_run_0 {most : Nat} {s : cC} : c_run most [] s = s := rfl
theorem c_run_stop {most : Nat} {s : cC} (h : most ≤ s.1) : ∀ {L : List (List Int32)}, c_run most L s = s
  | [] => rfl
  | c :: L => by
    show c_run most L (c_do most s c) = s
    have : c_do most s c = s := if_pos h
    rw [this, c_run_stop h]
theorem c_run_n {most : Nat} : ∀ {L : List (List Int32)} {s : cC}, s.1 ≤ most → (c_run most L s).1 = min most (s.1 + L.length)
  | [], s, h => by
    show s.1 = min most (s.1 + 0)
    omega
  | c :: L, s, h => by
    show (c_run most L (c_do most s c)).1 = _
    unfold c_do
    by_cases q : most ≤ s.1
    · rw [if_pos q, c_run_n h, List.length_cons]
      omega
    · rw [if_neg q, c_run_n (by show s.1 + 1 ≤ most; omega), List.length_cons]
      show min most (s.1 + 1 + L.length) = _
      congr 1
      omega
theorem c_run_2 {most : Nat} : ∀ {L : List (List Int32)} {s : cC}, ¬ s.1 = 0 → (c_run most L s).2 = s.2
  | [], _, _ => rfl
  | c :: L, s, h => by
    show (c_run most L (c_do most s c)).2 = _
    unfold c_do
    by_cases q : most ≤ s.1
    · rw [if_pos q, c_run_2 h]
    · rw [if_neg q, c_run_2 (by show ¬ s.1 + 1 = 0; omega), if_neg h]
theorem c_run_1 {most : Nat} {L : List (List Int32)} {s : cC} (hm : 1 ≤ most) (hs : s.1 = 0) (hL : ¬ L = []) : (c_run most L s).2 = g_first L := by
  cases L with
  | nil => exact absurd rfl hL
  | cons c L =>
    show (c_run most L (c_do most s c)).2 = _
    unfold c_do
    rw [if_neg (by omega), c_run_2 (by show ¬ s.1 + 1 = 0; omega), if_pos hs]
    rfl
theorem c_run_le {most : Nat} {L : List (List Int32)} {s : cC} (h : s.1 ≤ most) : (c_run most L s).1 ≤ most := by
  rw [c_run_n h]
  omega
/-! what casts write -/
def c_cst (I : tI) (m : Nat) (s : cC) : Prop := I 0 19 = nI s.1 ∧ ∀ k, k < m → I 18 k = s.2 k
def c_cf (I J : tI) : Prop := (∀ b : Nat, b ≠ 17 → b ≠ 18 → b ≠ 0 → J b = I b) ∧ ∀ k : Nat, k ≠ 19 → J 0 k = I 0 k
theorem c_cf.rf {I : tI} : c_cf I I := ⟨fun _ _ _ _ => rfl, fun _ _ => rfl⟩
theorem c_cf.tr {I J L : tI} (h : c_cf I J) (h2 : c_cf J L) : c_cf I L := ⟨fun b a c d => (h2.1 b a c d).trans (h.1 b a c d), fun k a => (h2.2 k a).trans (h.2 k a)⟩
theorem c_cf.sp {I J : tI} (h : c_cf I J) : c_sp I J := ⟨fun b b0 hf => h.1 b (fun e => hf (by subst e; unfold c_free; omega)) (fun e => hf (by subst e; unfold c_free; omega)) b0, fun k _ _ h19 => h.2 k h19⟩
theorem c_cf.u {I : tI} {k : Nat} {v : Int32} {b : Nat} (h : b = 17 ∨ b = 18) : c_cf I (xm_u2 I b k v) := ⟨fun c h1 h2 h3 => funext fun j => xm_u2_ne (by omega) j, fun j _ => xm_u2_ne (by omega) _⟩
theorem c_cf.uf {I : tI} {v : Int32} : c_cf I (xm_u2 I 0 19 v) := ⟨fun c h1 h2 h3 => funext fun j => xm_u2_ne h3 j, fun j h1 => by rw [xm_u2_at, if_neg h1]⟩
theorem c_cf.ua {I : tI} {f : Nat → Int32} : c_cf I (c_ua I 18 f) := ⟨fun c h1 h2 h3 => funext fun j => if_neg h2, fun j _ => if_neg (by decide)⟩
theorem c_cf.A {I J : tI} (h : c_cf I J) {r : Nat} (h1 : 4 ≤ r) (h2 : r ≠ 17) (h3 : r ≠ 18) : cA J r = cA I r := cA_eq (fun k hk => h.1 _ (by omega) (by omega) (by omega)) (by rw [h.1 r h2 h3 (by omega)])

/-! ===== what holds of every state is kept (all but what is read) ===== -/
set_option maxRecDepth 100000
/-- a troupe's order, but for its year -/
def g_tk (K : gK) (T : gT) : Prop := (∀ p h, h < gn K → p < gm K → t_has (gw T p) h = true → g_al K T h = true) ∧ ∀ p, p < gm K → ∃ s, s ≤ 30 ∧ gs T p = nI s
section
variable {K : gK} {T : gT}
theorem g_tok.tk (h : g_tok K T) : g_tk K T := ⟨h.2.1, h.2.2⟩
theorem g_tk.of (h : g_tk K T) {y : Nat} (hy : y ≤ 200) (e : gy T = nI y) : g_tok K T := ⟨⟨y, hy, e⟩, h.1, h.2⟩
theorem g_gw_cease {p q h : Nat} : gw (g_cease T p h) q = if q = p then gw T p &&& (t_bit h ^^^ nM) else gw T q := rfl
theorem g_gw_begin {p q h : Nat} : gw (g_begin T p h) q = if q = p then gw T p ||| t_bit h else gw T q := rfl
theorem g_al_c {T' : gT} (h1 : gy T' = gy T) (h2 : gd T' = gd T) {h : Nat} : g_al K T' h = g_al K T h := by
  unfold g_al
  rw [h1, h2]
/-- what a death leaves -/
theorem g_die_f {h : Nat} (hh : h < 32) : ∀ n, (∀ p k, k < 32 → t_has (gw (t_fold n (fun p T => if t_has (gw T p) h = true then g_cease T p h else T) (g_dead T h)) p) k = true → t_has (gw T p) k = true ∧ (p < n → k ≠ h)) ∧ gs (t_fold n (fun p T => if t_has (gw T p) h = true then g_cease T p h else T) (g_dead T h)) = gs T ∧ gy (t_fold n (fun p T => if t_has (gw T p) h = true then g_cease T p h else T) (g_dead T h)) = gy T ∧ gd (t_fold n (fun p T => if t_has (gw T p) h = true then g_cease T p h else T) (g_dead T h)) = g_upd (gd T) h true
  | 0 => ⟨fun p k _ hk => ⟨hk, fun q => by omega⟩, rfl, rfl, rfl⟩
  | n + 1 => by
    obtain ⟨i1, i2, i3, i4⟩ := g_die_f (h := h) hh n
    rw [t_fold_s]
    generalize t_fold n (fun p T => if t_has (gw T p) h = true then g_cease T p h else T) (g_dead T h) = U at i1 i2 i3 i4 ⊢
    by_cases c : t_has (gw U n) h = true
    · rw [if_pos c]
      refine ⟨fun p k hk q => ?_, i2, i3, i4⟩
      rw [g_gw_cease] at q
      by_cases e : p = n
      · rw [if_pos e, th_and hk, th_not hk, th_bit hh hk, Bool.and_eq_true, Bool.not_eq_true', decide_eq_false_iff_not] at q
        rw [← e] at q
        exact ⟨(i1 p k hk q.1).1, fun _ => q.2⟩
      · rw [if_neg e] at q
        exact ⟨(i1 p k hk q).1, fun z => (i1 p k hk q).2 (by omega)⟩
    · rw [if_neg c]
      refine ⟨fun p k hk q => ⟨(i1 p k hk q).1, fun z => ?_⟩, i2, i3, i4⟩
      by_cases e : p = n
      · intro e2
        rw [e, e2] at q
        exact c q
      · exact (i1 p k hk q).2 (by omega)
theorem g_tk.die (hK : gn K ≤ 9) (ht : g_tk K T) {h : Nat} (hh : h < 32) : g_tk K (g_die K T h) := by
  obtain ⟨i1, i2, i3, i4⟩ := g_die_f (T := T) hh (gm K)
  refine ⟨fun p k hk hp q => ?_, fun p hp => ?_⟩
  · obtain ⟨q1, q2⟩ := i1 p k (by omega) q
    have := ht.1 p k hk hp q1
    unfold g_al at this ⊢
    have e1 : gy (g_die K T h) = gy T := i3
    have e2 : gd (g_die K T h) = g_upd (gd T) h true := i4
    rw [e1, e2]
    unfold g_upd
    rw [if_neg (q2 hp)]
    exact this
  · have e : gs (g_die K T h) = gs T := i2
    rw [e]
    exact ht.2 p hp
theorem gy_die' {h : Nat} (hh : h < 32) : gy (g_die K T h) = gy T := (g_die_f (T := T) hh (gm K)).2.2.1
theorem g_tk.deaths (hK : gn K ≤ 9) (ht : g_tk K T) {d : Int32} : ∀ n, n ≤ 9 → g_tk K (g_deaths K d n T) ∧ gy (g_deaths K d n T) = gy T
  | 0, _ => ⟨ht, rfl⟩
  | n + 1, hn => by
    obtain ⟨i1, i2⟩ := g_tk.deaths hK ht (d := d) n (by omega)
    rw [g_deaths_s]
    split
    · exact ⟨i1.die hK (by omega), (gy_die' (by omega)).trans i2⟩
    · exact ⟨i1, i2⟩
theorem g_tk.begin (hK : gn K ≤ 9) (ht : g_tk K T) {p h : Nat} (hh : h < gn K) (ha : g_al K T h = true) : g_tk K (g_begin T p h) := by
  refine ⟨fun q k hk hq z => ?_, ht.2⟩
  rw [g_al_c (T := T) (T' := g_begin T p h) rfl rfl]
  rw [g_gw_begin] at z
  by_cases e : q = p
  · rw [if_pos e, th_or (by omega), th_bit (by omega) (by omega), Bool.or_eq_true, decide_eq_true_eq] at z
    rcases z with z | z
    · exact ht.1 p k hk (by omega) z
    · rw [z]
      exact ha
  · rw [if_neg e] at z
    exact ht.1 q k hk hq z
theorem g_tk.cease (hK : gn K ≤ 9) (ht : g_tk K T) {p h : Nat} (hh : h < 32) : g_tk K (g_cease T p h) := by
  refine ⟨fun q k hk hq z => ?_, ht.2⟩
  rw [g_al_c (T := T) (T' := g_cease T p h) rfl rfl]
  rw [g_gw_cease] at z
  by_cases e : q = p
  · rw [if_pos e, th_and (by omega), Bool.and_eq_true] at z
    exact ht.1 p k hk (by omega) z.1
  · rw [if_neg e] at z
    exact ht.1 q k hk hq z
theorem g_chosen_may {p : Nat} : ∀ {n z : Nat}, g_best K T p n = some z → g_may K T p z = true ∧ z < n
  | 0, z, h => by cases h
  | n + 1, z, h => by
    have e : g_best K T p (n + 1) = if (g_may K T p n && (match g_best K T p n with | none => true | some z => decide (¬ g_score K T p n ≤ g_score K T p z))) = true then some n else g_best K T p n := rfl
    rw [e] at h
    generalize hb : (g_may K T p n && (match g_best K T p n with | none => true | some z => decide (¬ g_score K T p n ≤ g_score K T p z))) = b at h
    cases b with
    | true =>
      rw [if_pos rfl] at h
      cases h
      rw [Bool.and_eq_true] at hb
      exact ⟨hb.1, Nat.lt_succ_self _⟩
    | false =>
      rw [if_neg (by decide)] at h
      have := g_chosen_may h
      exact ⟨this.1, by omega⟩
theorem g_may_al {p h : Nat} (hm : g_may K T p h = true) : g_al K T h = true := by
  unfold g_may at hm
  simp only [Bool.and_eq_true] at hm
  exact hm.1.1.1
theorem g_tk.take (hK : gn K ≤ 9) (ht : g_tk K T) {p h : Nat} (hh : h < gn K) (ha : g_al K T h = true) : g_tk K (g_take T p h) := by
  have := ht.begin (p := p) hK hh ha
  exact ⟨fun q k hk hq z => by
    rw [g_al_c (T := g_begin T p h) (T' := g_take T p h) rfl rfl]
    exact this.1 q k hk hq z, this.2⟩
end
theorem g_tk.fill {K : gK} (hK : gn K ≤ 9) {p : Nat} : ∀ (f : Nat) {T : gT}, g_tk K T → g_tk K (g_fill K p f T) ∧ gy (g_fill K p f T) = gy T
  | 0, T, h => ⟨h, rfl⟩
  | f + 1, T, h => by
    show g_tk K (if g_lack K T p ≤ nI 0 then T else match g_chosen K T p with | none => T | some h => g_fill K p f (g_take T p h)) ∧ gy (if g_lack K T p ≤ nI 0 then T else match g_chosen K T p with | none => T | some h => g_fill K p f (g_take T p h)) = gy T
    split
    · exact ⟨h, rfl⟩
    · cases e : g_chosen K T p with
      | none => exact ⟨h, rfl⟩
      | some z =>
        obtain ⟨m1, m2⟩ := g_chosen_may e
        obtain ⟨i1, i2⟩ := g_tk.fill hK f (h.take (p := p) hK m2 (g_may_al m1))
        exact ⟨i1, i2⟩
theorem g_tk.fills {K : gK} (hK : gn K ≤ 9) {T : gT} (h : g_tk K T) : ∀ n, g_tk K (g_fills K n T) ∧ gy (g_fills K n T) = gy T
  | 0 => ⟨h, rfl⟩
  | n + 1 => by
    obtain ⟨i1, i2⟩ := g_tk.fills hK h n
    rw [g_fills_s]
    obtain ⟨j1, j2⟩ := g_tk.fill hK (p := n) 10 i1
    exact ⟨j1, j2.trans i2⟩
theorem g_tk.str {K : gK} {T : gT} (h : g_tk K T) {p s : Nat} (hs : s ≤ 30) : g_tk K (g_str T p (nI s)) := by
  refine ⟨h.1, fun q hq => ?_⟩
  by_cases e : q = p
  · exact ⟨s, hs, by show g_upd T.2.1 p (nI s) q = _; unfold g_upd; rw [if_pos e]⟩
  · obtain ⟨s', h1, h2⟩ := h.2 q hq
    exact ⟨s', h1, by show g_upd T.2.1 p (nI s) q = _; unfold g_upd; rw [if_neg e]; exact h2⟩
theorem t_more_0 {a b : Nat} (ha : a < 2 ^ 30) (hb : b < 2 ^ 30) : t_more (nI 0) (nI a - nI b) = nI (a - b) := by
  unfold t_more
  by_cases h : b ≤ a
  · rw [nI_sub h, if_pos (nI_le (Nat.zero_le _) (by omega))]
  · have e : (nI a - nI b).toInt = (a : Int) - b := by
      rw [Int32.toInt_sub, nI_toInt (by omega), nI_toInt (by omega)]
      exact Int.bmod_eq_of_le (by omega) (by omega)
    rw [if_neg, show a - b = 0 by omega]
    rw [Int32.le_iff_toInt_le, e, nI_toInt (by omega)]
    omega
theorem g_tk.wears {K : gK} (hw : ∃ n, n ≤ 9 ∧ gwear K = nI n) {T : gT} (h : g_tk K T) : ∀ n, n ≤ gm K → g_tk K (g_wears K n T) ∧ gy (g_wears K n T) = gy T
  | 0, _ => ⟨h, rfl⟩
  | n + 1, hn => by
    obtain ⟨i1, i2⟩ := g_tk.wears hw h n (by omega)
    rw [g_wears_s]
    split
    · obtain ⟨w, w9, ew⟩ := hw
      obtain ⟨s, s30, es⟩ := i1.2 n (by omega)
      rw [es, ew, t_more_0 (by omega) (by omega)]
      exact ⟨i1.str (by omega), i2⟩
    · exact ⟨i1, i2⟩
theorem g_tok.goes {K : gK} {T : gT} (hK : g_Kok K) (h : g_tok K T) {y : Nat} (e : gy T = nI y) (hy : y < 200) : g_tok K (g_goes K T) := by
  have hb : ∀ k, k < gn K → g_al K T k = true → g_al K (g_next T) k = true := fun k hk ha => by
    obtain ⟨b, hb40, eb⟩ := (hK.2.1 k hk).2.1
    unfold g_al at ha ⊢
    rw [Bool.and_eq_true, decide_eq_true_eq] at ha ⊢
    refine ⟨?_, ha.2⟩
    have e1 : gy (g_next T) = nI (y + 1) := by
      show gy T + nI 1 = _
      rw [e, nI_add]
    have ha := ha.1
    rw [eb, e, nI_leI (by omega) (by omega)] at ha
    rw [eb, e1, nI_leI (by omega) (by omega)]
    omega
  have hn : g_tk K (g_next T) := ⟨fun p k hk hp z => hb k hk (h.2.1 p k hk hp z), h.2.2⟩
  obtain ⟨d1, d2⟩ := hn.deaths hK.1.1 (d := nI 0) (gn K) hK.1.1
  obtain ⟨f1, f2⟩ := d1.fills hK.1.1 (gm K)
  obtain ⟨w1, w2⟩ := f1.wears hK.2.2.2 (gm K) (Nat.le_refl _)
  exact w1.of (y := y + 1) (by omega) ((w2.trans (f2.trans d2)).trans (by
    show gy T + nI 1 = _
    rw [e, nI_add]))
theorem g_tok.gos {K : gK} {T : gT} (hK : g_Kok K) (h : g_tok K T) {y : Nat} (e : gy T = nI y) : ∀ n, y + n ≤ 200 → g_tok K (g_gos K n T)
  | 0, _ => h
  | n + 1, hn => by
    rw [g_gos_s]
    exact (g_tok.gos hK h e n (by omega)).goes hK (y := y + n) (gy_gos K T e n) (by omega)
/-! the whole -/
def g_full (G : gG) : Prop := g_ok G ∧ g_w (gbeg G)
theorem g_full.ok {G : gG} (h : g_full G) : g_ok G := h.1
theorem g_full.ref {G : gG} (h : g_full G) {r : Nat} : g_full (g_ref G r) := h
theorem g_full.set {G : gG} (h : g_full G) {T : gT} (ht : g_tok (gGK G) T) : g_full (g_set G T) := by
  obtain ⟨⟨h1, h2, h3, h4, h5, h6, h7⟩, h8⟩ := h
  obtain ⟨y, hy, e⟩ := ht.1
  exact ⟨⟨h1, h2, h3, ht, ht, h6, ⟨y, 0, hy, Nat.zero_le _, e, rfl, e⟩⟩, h8⟩
theorem g_full.now {G : gG} (h : g_full G) {T : gT} {y g : Nat} (ht : g_tok (gGK G) T) (hy : y ≤ 200) (hg : g ≤ y) (e : gy T = nI y) (eb : gy (gbase G) = nI (y - g)) : g_full (g_now G T (nI g)) := by
  obtain ⟨⟨h1, h2, h3, h4, h5, h6, h7⟩, h8⟩ := h
  exact ⟨⟨h1, h2, h3, ht, h5, h6, ⟨y, g, hy, hg, e, rfl, eb⟩⟩, h8⟩
theorem g_full.imgs {G : gG} (h : g_full G) {m : Nat} {f : Nat → gT} (hf : ∀ k, k < m → g_tok (gGK G) (f k)) : g_full (g_imgs G m f) := by
  obtain ⟨⟨h1, h2, h3, h4, h5, h6, h7⟩, h8⟩ := h
  refine ⟨⟨h1, h2, h3, h4, h5, fun k hk => ?_, h7⟩, h8⟩
  show g_tok (gGK G) (if k < m then f k else gbeg G)
  have hk : k < m := hk
  rw [if_pos hk]
  exact hf k hk
theorem g_full.ck {G : gG} (h : g_full G) {c : Bool} {what : Int32} {r : Nat} {x : gR} (hx : c = true → g_full x.2.2) : g_full (g_ck G c what r x).2.2 := by
  unfold g_ck
  cases c with
  | true => exact hx rfl
  | false => exact h.ref
theorem k_says {G : gG} (h : g_full G) {v : Int32} : g_full (g_says G v).2.2 := h
theorem k_years {G : gG} (h : g_full G) {a : Int32} : g_full (q_years G a).2.2 := by
  refine h.ck fun e => ?_
  obtain ⟨n, h1, h60, rfl⟩ : ∃ n, 1 ≤ n ∧ n ≤ 60 ∧ a = nI n := by
    rcases c_rc a 1 60 (A := nI 1) (B := nI 60) rfl rfl (by omega) (by omega) with ⟨n, a1, a2, a3, -⟩ | ⟨e2, -⟩ | ⟨e2, -, -⟩
    · exact ⟨n, a1, a2, a3⟩
    · rw [e2] at e; cases e
    · rw [e2] at e; cases e
  obtain ⟨y, g, hy, hg, ey, eg, eb⟩ := h.1.2.2.2.2.2.2
  show g_full (g_now G (g_yrs (gGK G) (nI n).toNatClampNeg (gnow G, ggone G)).1 (g_yrs (gGK G) (nI n).toNatClampNeg (gnow G, ggone G)).2)
  rw [nI_clamp (by omega), g_yrs_gos ey hy n (by omega)]
  show g_full (g_now G (g_gos (gGK G) (min n (200 - y)) (gnow G)) (ggone G + nI (min n (200 - y))))
  rw [eg, nI_add]
  exact h.now (y := y + min n (200 - y)) (h.1.now.gos h.1.1 ey _ (by omega)) (by omega) (by omega) (gy_gos _ _ ey _) (by rw [eb]; congr 1; omega)
theorem k_undo {G : gG} (h : g_full G) {a : Int32} : g_full (q_undo G a).2.2 := by
  refine h.ck fun e => ?_
  obtain ⟨n, h1, h60, rfl⟩ : ∃ n, 1 ≤ n ∧ n ≤ 60 ∧ a = nI n := by
    rcases c_rc a 1 60 (A := nI 1) (B := nI 60) rfl rfl (by omega) (by omega) with ⟨n, a1, a2, a3, -⟩ | ⟨e2, -⟩ | ⟨e2, -, -⟩
    · exact ⟨n, a1, a2, a3⟩
    · rw [e2] at e; cases e
    · rw [e2] at e; cases e
  obtain ⟨y, g, hy, hg, ey, eg, eb⟩ := h.1.2.2.2.2.2.2
  rw [eg, t_less_n (by omega) (by omega)]
  split
  · exact h
  · show g_full (g_now G (g_gos (gGK G) (nI g - nI (min n g)).toNatClampNeg (gbase G)) (nI g - nI (min n g)))
    rw [nI_sub (by omega), nI_clamp (by omega)]
    exact h.now (y := y - g + (g - min n g)) (h.1.2.2.2.2.1.gos h.1.1 eb _ (by omega)) (by omega) (by omega) (gy_gos _ _ eb _) (by rw [eb]; congr 1; omega)
theorem k_dies {G : gG} (h : g_full G) {a : Int32} : g_full (q_dies G a).2.2 := by
  refine h.ck fun e => ?_
  obtain ⟨k, hk, rfl⟩ := t_in_of (by have := h.1.1.1.1; omega) e
  have h9 := h.1.1.1.1
  rw [nI_clamp (by omega)]
  split
  · refine h.set ?_
    obtain ⟨y, hy, ey⟩ := h.1.now.1
    exact (h.1.now.tk.die h9 (by omega)).of hy ((gy_die' (by omega)).trans ey)
  · exact h
theorem k_string {G : gG} (h : g_full G) {a n : Int32} : g_full (q_string G a n).2.2 := by
  refine h.ck fun e => ?_
  refine h.ck fun e2 => ?_
  obtain ⟨p, hp, rfl⟩ := t_in_of (by have := h.1.1.1.2; omega) e
  have h8 := h.1.1.1.2
  obtain ⟨n, h1, h30, rfl⟩ : ∃ m, 1 ≤ m ∧ m ≤ 30 ∧ n = nI m := by
    rcases c_rc n 1 30 (A := nI 1) (B := nI 30) rfl rfl (by omega) (by omega) with ⟨n, a1, a2, a3, -⟩ | ⟨e3, -⟩ | ⟨e3, -, -⟩
    · exact ⟨n, a1, a2, a3⟩
    · rw [e3] at e2; cases e2
    · rw [e3] at e2; cases e2
  rw [nI_clamp (by omega)]
  obtain ⟨s, hs, es⟩ := h.1.now.2.2 p hp
  show g_full (g_set G (g_str (gnow G) p (t_less (nI 30) (gs (gnow G) p + nI n))))
  rw [es, nI_add, t_less_n (by omega) (by omega)]
  obtain ⟨y, hy, ey⟩ := h.1.now.1
  exact h.set ((h.1.now.tk.str (by omega)).of hy ey)
theorem k_give {G : gG} (h : g_full G) {a b c : Int32} : g_full (q_give G a b c).2.2 := by
  refine h.ck fun e => ?_
  rw [Bool.and_eq_true, Bool.and_eq_true] at e
  obtain ⟨⟨e1, e2⟩, e3⟩ := e
  obtain ⟨p, hp, rfl⟩ := t_in_of (by have := h.1.1.1.2; omega) e1
  obtain ⟨x, hx, rfl⟩ := t_in_of (by have := h.1.1.1.1; omega) e2
  obtain ⟨z, hz, rfl⟩ := t_in_of (by have := h.1.1.1.1; omega) e3
  have h8 := h.1.1.1.2
  have h9 := h.1.1.1.1
  rw [nI_clamp (by omega), nI_clamp (by omega), nI_clamp (by omega)]
  split
  · have q := ‹(t_has (gw (gnow G) p) x && g_may (gGK G) (gnow G) p z) = true›
    rw [Bool.and_eq_true] at q
    obtain ⟨y, hy, ey⟩ := h.1.now.1
    refine h.set (((h.1.now.tk.cease h9 (by omega)).begin h9 hz ?_).of hy ey)
    rw [g_al_c (T := gnow G) (T' := g_cease (gnow G) p x) rfl rfl]
    exact g_may_al q.2
  · exact h
theorem k_image {G : gG} (h : g_full G) : g_full (q_image G).2.2 := by
  unfold q_image
  split
  · exact h
  · refine h.imgs fun k hk => ?_
    by_cases e : k = gimn G
    · rw [if_pos e]
      exact h.1.now
    · rw [if_neg e]
      exact h.1.2.2.2.2.2.1 k (by omega)
theorem k_restore {G : gG} (h : g_full G) : g_full (q_restore G).2.2 := by
  unfold q_restore
  split
  · exact h
  · have h1 : g_full (g_imgs G (gimn G - 1) (gim G)) := h.imgs fun k hk => h.1.2.2.2.2.2.1 k (by omega)
    exact h1.set (h.1.2.2.2.2.2.1 (gimn G - 1) (by omega))
theorem k_feed {G : gG} (h : g_full G) {a b c d e : Int32} : g_full (q_feed G a b c d e).2.2 := by
  unfold q_feed
  split
  · exact h
  · exact h

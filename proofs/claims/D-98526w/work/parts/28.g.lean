/-! ===== pure words, of neither side ===== -/
set_option maxRecDepth 100000
def t_b (b : Bool) : Int32 := if b then 1 else 0
theorem xl_n : Int32.ofInt 0 = nI 0 ∧ Int32.ofInt 1 = nI 1 ∧ Int32.ofInt 2 = nI 2 ∧ Int32.ofInt 3 = nI 3 ∧ Int32.ofInt 4 = nI 4 ∧ Int32.ofInt 5 = nI 5 ∧ Int32.ofInt 6 = nI 6 ∧ Int32.ofInt 7 = nI 7 ∧ Int32.ofInt 8 = nI 8 ∧ Int32.ofInt 9 = nI 9 ∧ Int32.ofInt 10 = nI 10 ∧ Int32.ofInt 11 = nI 11 ∧ Int32.ofInt 12 = nI 12 ∧ Int32.ofInt 14 = nI 14 ∧ Int32.ofInt 15 = nI 15 ∧ Int32.ofInt 16 = nI 16 ∧ Int32.ofInt 17 = nI 17 ∧ Int32.ofInt 20 = nI 20 ∧ Int32.ofInt 24 = nI 24 ∧ Int32.ofInt 25 = nI 25 ∧ Int32.ofInt 30 = nI 30 ∧ Int32.ofInt 31 = nI 31 ∧ Int32.ofInt 32 = nI 32 ∧ Int32.ofInt 34 = nI 34 ∧ Int32.ofInt 39 = nI 39 ∧ Int32.ofInt 40 = nI 40 ∧ Int32.ofInt 41 = nI 41 ∧ Int32.ofInt 43 = nI 43 ∧ Int32.ofInt 44 = nI 44 ∧ Int32.ofInt 45 = nI 45 ∧ Int32.ofInt 47 = nI 47 ∧ Int32.ofInt 48 = nI 48 ∧ Int32.ofInt 57 = nI 57 ∧ Int32.ofInt 59 = nI 59 ∧ Int32.ofInt 60 = nI 60 ∧ Int32.ofInt 61 = nI 61 ∧ Int32.ofInt 63 = nI 63 ∧ Int32.ofInt 91 = nI 91 ∧ Int32.ofInt 93 = nI 93 ∧ Int32.ofInt 97 = nI 97 ∧ Int32.ofInt 99 = nI 99 ∧ Int32.ofInt 106 = nI 106 ∧ Int32.ofInt 107 = nI 107 ∧ Int32.ofInt 122 = nI 122 ∧ Int32.ofInt 150 = nI 150 ∧ Int32.ofInt 160 = nI 160 ∧ Int32.ofInt 199 = nI 199 ∧ Int32.ofInt 200 = nI 200 ∧ Int32.ofInt 255 = nI 255 ∧ Int32.ofInt 511 = nI 511 ∧ Int32.ofInt 512 = nI 512 ∧ Int32.ofInt 600 = nI 600 ∧ Int32.ofInt 999 = nI 999 ∧ Int32.ofInt 1000 = nI 1000 ∧ Int32.ofInt 32767 = nI 32767 := by decide +kernel
def nM : Int32 := -1
theorem xl_m : Int32.ofInt (-1) = nM := by decide +kernel
theorem xl_0 : (0 : Int32) = nI 0 := by decide +kernel
theorem xl_1 : (1 : Int32) = nI 1 := by decide +kernel
theorem t_b01 (b : Bool) : t_b b = 0 ∨ t_b b = 1 := by cases b <;> simp [t_b]
theorem t_b0 (b : Bool) : (t_b b = 0) = (b = false) := by cases b <;> simp [t_b]
theorem t_b1 (b : Bool) : (t_b b = 1) = (b = true) := by cases b <;> simp [t_b]
theorem t_bn0 (b : Bool) : (t_b b = nI 0) = (b = false) := t_b0 b
theorem t_bn1 (b : Bool) : (t_b b = nI 1) = (b = true) := t_b1 b
theorem t_bt : t_b true = nI 1 := rfl
theorem t_bf : t_b false = nI 0 := rfl
/-- counting up -/
theorem t_for {P : Nat → Prop} {N : Nat} (h : ∀ k, k ≤ N → (∀ j, k < j → j ≤ N → P j) → P k) : ∀ k, k ≤ N → P k := by
  have : ∀ n k, N - k < n → k ≤ N → P k := by
    intro n
    induction n with
    | zero => intro k h1; omega
    | succ n ih => exact fun k h1 h2 => h k h2 fun j h3 h4 => ih j (by omega) h4
  exact fun k hk => this _ k (Nat.lt_succ_self _) hk
theorem t_lt (a b : Int32) : (a < b) = ¬ (b ≤ a) := by rw [Int32.not_le]
theorem t_klt {a : Int32} {n k : Nat} (h : a = nI n) (c : ¬ a ≤ nI k) (hk : k < 2 ^ 31) : k < n := by
  rcases Nat.lt_or_ge k n with q | q
  · exact q
  · exact absurd (by rw [h]; exact nI_le q hk) c
theorem t_kge {a : Int32} {n k : Nat} (h : a = nI n) (c : a ≤ nI k) (hn : n < 2 ^ 31) (hk : k < 2 ^ 31) : n ≤ k := by
  rcases Nat.lt_or_ge k n with q | q
  · exact absurd (by rw [← h]; exact c) (nI_ge q hn)
  · exact q
theorem vp_lt {x : Int32} {n : Nat} (h : vp_in x n) : x.toNatClampNeg < n := Nat.not_le.mp fun q => h (Or.inr q)
/-- a written place is within -/
theorem t_vin {z : Int} {n : Nat} (h : (0 ≤ z ∧ z < 2147483648 ∧ z.toNat < n)) : vp_in (Int32.ofInt z) n := by
  obtain ⟨h1, h2, h3⟩ := h
  rw [vp_in_iff, Int32.toInt_ofInt_of_le (by omega) (by omega)]
  omega
theorem t_cl {z : Int} (h : (0 ≤ z ∧ z < 2147483648)) : (Int32.ofInt z).toNatClampNeg = z.toNat := by
  rw [Int32.toNatClampNeg, Int32.toInt_ofInt_of_le (by omega) (by omega)]
theorem nI_b : (∀ n : Nat, n < 2 ^ 31 → (nI n).toNatClampNeg = n) := fun _ h => nI_clamp h
def t_has (x : Int32) (k : Nat) : Bool := decide ((x >>> (nI k &&& 31)) &&& nI 1 = nI 1)
def t_fold {σ : Type} : Nat → (Nat → σ → σ) → σ → σ
  | 0, _, s => s
  | n + 1, f, s => f n (t_fold n f s)
theorem t_fold_s {σ : Type} (n : Nat) (f : Nat → σ → σ) (s : σ) : t_fold (n + 1) f s = f n (t_fold n f s) := rfl
theorem t_fold_0 {σ : Type} (f : Nat → σ → σ) (s : σ) : t_fold 0 f s = s := rfl
theorem t_fold_c {σ : Type} {f g : Nat → σ → σ} : ∀ {n : Nat} {s : σ}, (∀ k, k < n → ∀ x, f k x = g k x) → t_fold n f s = t_fold n g s
  | 0, _, _ => rfl
  | n + 1, s, h => by rw [t_fold_s, t_fold_s, t_fold_c (fun k hk => h k (by omega)), h n (by omega)]
def t_bit (k : Nat) : Int32 := nI 1 <<< (nI k &&& 31)
/-- the bits of those below n for which p -/
def t_or (n : Nat) (p : Nat → Bool) : Int32 := t_fold n (fun k b => b ||| (if p k = true then t_bit k else nI 0)) (nI 0)
def t_sum (n : Nat) (f : Nat → Int32) : Int32 := t_fold n (fun k b => b + f k) (nI 0)
def t_ex : Nat → (Nat → Bool) → Bool
  | 0, _ => false
  | n + 1, p => t_ex n p || p n
theorem t_or_s (n : Nat) (p : Nat → Bool) : t_or (n + 1) p = t_or n p ||| (if p n = true then t_bit n else nI 0) := rfl
theorem t_sum_s (n : Nat) (f : Nat → Int32) : t_sum (n + 1) f = t_sum n f + f n := rfl
theorem t_or_0 (p : Nat → Bool) : t_or 0 p = nI 0 := rfl
theorem t_sum_0 (f : Nat → Int32) : t_sum 0 f = nI 0 := rfl
theorem t_or_c {n : Nat} {p q : Nat → Bool} (h : ∀ k, k < n → p k = q k) : t_or n p = t_or n q := t_fold_c fun k hk x => by rw [h k hk]
theorem t_sum_c {n : Nat} {f g : Nat → Int32} (h : ∀ k, k < n → f k = g k) : t_sum n f = t_sum n g := t_fold_c fun k hk x => by rw [h k hk]
theorem t_ex_c : ∀ {n : Nat} {p q : Nat → Bool}, (∀ k, k < n → p k = q k) → t_ex n p = t_ex n q
  | 0, _, _, _ => rfl
  | n + 1, p, q, h => by unfold t_ex; rw [t_ex_c (fun k hk => h k (by omega)), h n (by omega)]
def t_ones (x : Int32) : Int32 := t_sum 9 (fun k => (x >>> (nI k &&& 31)) &&& nI 1)
def t_less (a b : Int32) : Int32 := if b ≤ a then b else a
def t_more (a b : Int32) : Int32 := if a ≤ b then b else a
def t_in (v lo hi : Int32) : Bool := decide (lo ≤ v) && decide (v ≤ hi)
def t_o (o : Option Nat) : Int32 := match o with
  | none => nM
  | some k => nI k
/-! a troupe: who works each puppet, strings, who worked last, since when, who chose first, the dead, the year -/
abbrev gT : Type := (Nat → Int32) × (Nat → Int32) × (Nat → Int32) × (Nat → Nat → Int32) × (Nat → Int32) × (Nat → Bool) × Int32
def gw (T : gT) (p : Nat) : Int32 := T.1 p
def gs (T : gT) (p : Nat) : Int32 := T.2.1 p
def gl (T : gT) (p : Nat) : Int32 := T.2.2.1 p
def gsi (T : gT) (h p : Nat) : Int32 := T.2.2.2.1 h p
def gc (T : gT) (h : Nat) : Int32 := T.2.2.2.2.1 h
def gd (T : gT) (h : Nat) : Bool := T.2.2.2.2.2.1 h
def gy (T : gT) : Int32 := T.2.2.2.2.2.2
/-- what is told: hands, puppets; limp, born, dies; fall, needs, quarrels; wear; the law -/
abbrev gK : Type := Nat × Nat × (Nat → Int32) × (Nat → Int32) × (Nat → Int32) × (Nat → Int32) × (Nat → Int32) × (Nat → Int32) × Int32 × ((Nat → Int32) → Int32)
def gn (K : gK) : Nat := K.1
def gm (K : gK) : Nat := K.2.1
def glimp (K : gK) (h : Nat) : Int32 := K.2.2.1 h
def gborn (K : gK) (h : Nat) : Int32 := K.2.2.2.1 h
def gdies (K : gK) (h : Nat) : Int32 := K.2.2.2.2.1 h
def gfall (K : gK) (p : Nat) : Int32 := K.2.2.2.2.2.1 p
def gneeds (K : gK) (p : Nat) : Int32 := K.2.2.2.2.2.2.1 p
def gquar (K : gK) (p : Nat) : Int32 := K.2.2.2.2.2.2.2.1 p
def gwear (K : gK) : Int32 := K.2.2.2.2.2.2.2.2.1
def glaw (K : gK) (f : Nat → Int32) : Int32 := K.2.2.2.2.2.2.2.2.2 f
def g_al (K : gK) (T : gT) (h : Nat) : Bool := decide (gborn K h ≤ gy T) && !gd T h
def g_alive (K : gK) (T : gT) : Int32 := t_or (gn K) (g_al K T)
def g_work (K : gK) (T : gT) (h : Nat) : Int32 := t_or (gm K) (fun p => t_has (gw T p) h)
def g_lack (K : gK) (T : gT) (p : Nat) : Int32 := t_more (nI 0) (gneeds K p - t_ones (gw T p))
def g_strs (K : gK) (T : gT) : Int32 := t_sum (gm K) (gs T)
def g_with (T : gT) (p : Nat) : Int32 := gw T p ||| (if gl T p = nM then nI 0 else nI 1 <<< (gl T p &&& 31))
def g_kin (K : gK) (T : gT) (p h : Nat) : Bool := t_ex (gm K) (fun q => decide (q ≠ p) && t_has (gw T q) h && !decide ((gw T q &&& g_with T p) &&& (t_bit h ^^^ nM) = nI 0))
def g_facts (K : gK) (T : gT) (p h : Nat) : Nat → Int32 := fun j => match j with
  | 0 => glimp K h
  | 1 => gfall K p
  | 2 => gy T - gborn K h
  | 3 => t_ones (g_work K T h)
  | 4 => gs T p
  | 5 => gy T
  | 6 => nI h
  | 7 => nI p
  | _ => t_b (g_kin K T p h)
def g_score (K : gK) (T : gT) (p h : Nat) : Int32 := glaw K (g_facts K T p h)
def g_may (K : gK) (T : gT) (p h : Nat) : Bool := g_al K T h && !t_has (gw T p) h && !t_has (gquar K p) h && !decide (nI 3 ≤ t_ones (g_work K T h))
def g_best (K : gK) (T : gT) (p n : Nat) : Option Nat := t_fold n (fun h b => if (g_may K T p h && (match b with | none => true | some z => decide (¬ g_score K T p h ≤ g_score K T p z))) = true then some h else b) none
def g_chosen (K : gK) (T : gT) (p : Nat) : Option Nat := g_best K T p (gn K)
def g_upd {α : Type} (f : Nat → α) (k : Nat) (v : α) : Nat → α := fun j => if j = k then v else f j
def g_cease (T : gT) (p h : Nat) : gT := (g_upd T.1 p (gw T p &&& (t_bit h ^^^ nM)), T.2.1, g_upd T.2.2.1 p (nI h), T.2.2.2)
def g_begin (T : gT) (p h : Nat) : gT := (g_upd T.1 p (gw T p ||| t_bit h), T.2.1, T.2.2.1, (fun a q => if a = h ∧ q = p then gy T else gsi T a q), T.2.2.2.2)
def g_str (T : gT) (p : Nat) (v : Int32) : gT := (T.1, g_upd T.2.1 p v, T.2.2)
def g_cho (T : gT) (h : Nat) (v : Int32) : gT := (T.1, T.2.1, T.2.2.1, T.2.2.2.1, g_upd T.2.2.2.2.1 h v, T.2.2.2.2.2)
def g_dead (T : gT) (h : Nat) : gT := (T.1, T.2.1, T.2.2.1, T.2.2.2.1, T.2.2.2.2.1, g_upd T.2.2.2.2.2.1 h true, T.2.2.2.2.2.2)
def g_year (T : gT) (y : Int32) : gT := (T.1, T.2.1, T.2.2.1, T.2.2.2.1, T.2.2.2.2.1, T.2.2.2.2.2.1, y)
def g_die (K : gK) (T : gT) (h : Nat) : gT := t_fold (gm K) (fun p T => if t_has (gw T p) h = true then g_cease T p h else T) (g_dead T h)
theorem t_ex_t : ∀ {n : Nat} {p : Nat → Bool} {k : Nat}, k < n → p k = true → t_ex n p = true
  | 0, _, _, h, _ => by omega
  | n + 1, p, k, h, hp => by
    unfold t_ex
    by_cases e : k = n
    · rw [e] at hp
      rw [hp, Bool.or_true]
    · rw [t_ex_t (by omega) hp, Bool.true_or]
theorem t_ex_f {n : Nat} {p : Nat → Bool} (h : t_ex n p = false) (hp : p n = false) : t_ex (n + 1) p = false := by
  unfold t_ex
  rw [h, hp]
  rfl
theorem nM_ne {n : Nat} (h : n < 2 ^ 31) : ¬ nI n = nM := by
  intro e
  have h1 := nI_toInt h
  rw [e] at h1
  have h2 : nM.toInt = -1 := by decide +kernel
  omega
theorem nM_ne' {n : Nat} (h : n < 2 ^ 31) : ¬ nM = nI n := fun e => nM_ne h e.symm
theorem nI_dec (n : Nat) : nI (n + 1) + nM = nI n := by rw [← nI_pred n, show nM = -1 from rfl, Int32.sub_eq_add_neg]
theorem nI_sb (n : Nat) : nI (n + 1) - nI 1 = nI n := nI_pred n
/-! a year -/
def g_take (T : gT) (p h : Nat) : gT := g_cho (g_begin T p h) h (if gc (g_begin T p h) h = nM then nI p else gc (g_begin T p h) h)
def g_fill (K : gK) (p : Nat) : Nat → gT → gT
  | 0, T => T
  | f + 1, T => if g_lack K T p ≤ nI 0 then T else match g_chosen K T p with
    | none => T
    | some h => g_fill K p f (g_take T p h)
def g_lot (l : Int32) : Int32 := l * Int32.ofNat 1103515245 + Int32.ofInt 12345
def g_lots (K : gK) (T : gT) (below : Int32) (n : Nat) (lots : Int32) : Int32 × Int32 := t_fold n (fun h s => if g_al K T h = true then (g_lot s.1, s.2 ||| (if below ≤ ((g_lot s.1 >>> (nI 16 &&& 31)) &&& nI 15) then nI 0 else t_bit h)) else s) (lots, nI 0)
def g_deaths (K : gK) (doomed : Int32) (n : Nat) (T : gT) : gT := t_fold n (fun h T => if (g_al K T h && (decide (gdies K h = gy T) || t_has doomed h)) = true then g_die K T h else T) T
def g_fills (K : gK) (m : Nat) (T : gT) : gT := t_fold m (fun p T => g_fill K p 10 T) T
def g_wears (K : gK) (m : Nat) (T : gT) : gT := t_fold m (fun p T => if g_lack K T p = nI 0 then g_str T p (t_more (nI 0) (gs T p - gwear K)) else T) T
def g_next (T : gT) : gT := g_year T (gy T + nI 1)
def g_ends (K : gK) (doomed : Int32) (T : gT) : gT := g_wears K (gm K) (g_fills K (gm K) (g_deaths K doomed (gn K) T))
def g_drawn (K : gK) (T : gT) (below lots : Int32) : Int32 × Int32 := if below ≤ nI 0 then (lots, nI 0) else g_lots K T below (gn K) lots
def g_goesL (K : gK) (below : Int32) (s : Int32 × gT) : Int32 × gT := ((g_drawn K (g_next s.2) below s.1).1, g_ends K (g_drawn K (g_next s.2) below s.1).2 (g_next s.2))
/-- without lots -/
def g_goes (K : gK) (T : gT) : gT := g_ends K (nI 0) (g_next T)
theorem g_goesL_0 (K : gK) (l : Int32) (T : gT) : g_goesL K (nI 0) (l, T) = (l, g_goes K T) := by
  unfold g_goesL g_goes g_drawn
  rw [if_pos (Int32.le_refl _)]
/-! the whole state. silent, owes; acts: how many, laughs, how many puppets, which; what began; now, base; gone; images; lines of a book; the tape; where the fault was; refused -/
abbrev gX : Type := (Nat → Int32) × (Nat → Nat → Int32) × Nat × (Nat → Int32) × (Nat → Nat) × (Nat → Nat → Nat)
abbrev gN : Type := gT × gT × gT × Int32 × Nat × (Nat → gT) × Nat × (Nat → Nat → Int32) × Nat × (Nat → Int32) × Int32 × (Nat → Int32)
abbrev gG : Type := gK × gX × gN
def gGK (G : gG) : gK := G.1
def gsil (G : gG) (h : Nat) : Int32 := G.2.1.1 h
def gow (G : gG) (h k : Nat) : Int32 := G.2.1.2.1 h k
def gacts (G : gG) : Nat := G.2.1.2.2.1
def glaugh (G : gG) (a : Nat) : Int32 := G.2.1.2.2.2.1 a
def gmany (G : gG) (a : Nat) : Nat := G.2.1.2.2.2.2.1 a
def gpup (G : gG) (a i : Nat) : Nat := G.2.1.2.2.2.2.2 a i
def gbeg (G : gG) : gT := G.2.2.1
def gnow (G : gG) : gT := G.2.2.2.1
def gbase (G : gG) : gT := G.2.2.2.2.1
def ggone (G : gG) : Int32 := G.2.2.2.2.2.1
def gimn (G : gG) : Nat := G.2.2.2.2.2.2.1
def gim (G : gG) (k : Nat) : gT := G.2.2.2.2.2.2.2.1 k
def glns (G : gG) : Nat := G.2.2.2.2.2.2.2.2.1
def gln (G : gG) (k i : Nat) : Int32 := G.2.2.2.2.2.2.2.2.2.1 k i
def gtape (G : gG) : Nat := G.2.2.2.2.2.2.2.2.2.2.1
def gfed (G : gG) (k : Nat) : Int32 := G.2.2.2.2.2.2.2.2.2.2.2.1 k
def gplace (G : gG) : Int32 := G.2.2.2.2.2.2.2.2.2.2.2.2.1
def grefd (G : gG) (k : Nat) : Int32 := G.2.2.2.2.2.2.2.2.2.2.2.2.2 k
def g_setN (G : gG) (f : gN → gN) : gG := (G.1, G.2.1, f G.2.2)
def g_ref (G : gG) (r : Nat) : gG := g_setN G fun n => (n.1, n.2.1, n.2.2.1, n.2.2.2.1, n.2.2.2.2.1, n.2.2.2.2.2.1, n.2.2.2.2.2.2.1, n.2.2.2.2.2.2.2.1, n.2.2.2.2.2.2.2.2.1, n.2.2.2.2.2.2.2.2.2.1, n.2.2.2.2.2.2.2.2.2.2.1, g_upd n.2.2.2.2.2.2.2.2.2.2.2 r (n.2.2.2.2.2.2.2.2.2.2.2 r + nI 1))
/-- now, and how many years gone -/
def g_now (G : gG) (T : gT) (y : Int32) : gG := g_setN G fun n => (n.1, T, n.2.2.1, y, n.2.2.2.2)
/-- settled -/
def g_set (G : gG) (T : gT) : gG := g_setN G fun n => (n.1, T, T, nI 0, n.2.2.2.2)
def g_isH (G : gG) (v : Int32) : Bool := t_in v (nI 0) (nI (gn (gGK G)) - nI 1)
def g_isP (G : gG) (v : Int32) : Bool := t_in v (nI 0) (nI (gm (gGK G)) - nI 1)
def g_isA (G : gG) (v : Int32) : Bool := t_in v (nI 0) (nI (gacts G) - nI 1)
abbrev gR : Type := Int32 × Int32 × gG
def g_ck (G : gG) (c : Bool) (what : Int32) (r : Nat) (x : gR) : gR := if c = true then x else (what, nI 0, g_ref G r)
def g_says (G : gG) (v : Int32) : gR := (nI 0, v, G)
theorem g_ck_t {G : gG} {what : Int32} {r : Nat} {x : gR} : g_ck G true what r x = x := rfl
theorem g_ck_f {G : gG} {what : Int32} {r : Nat} {x : gR} : g_ck G false what r x = (what, nI 0, g_ref G r) := rfl
theorem t_in_of {v : Int32} {n : Nat} (hn : n < 2 ^ 31) (h : t_in v (nI 0) (nI n - nI 1) = true) : ∃ k, k < n ∧ v = nI k := by
  unfold t_in at h
  simp at h
  obtain ⟨h0, h1⟩ := h
  obtain ⟨k, hk, rfl⟩ := nI_of (x := v) (fun q => absurd h0 (Int32.not_le.mpr q))
  refine ⟨k, ?_, rfl⟩
  cases n with
  | zero =>
    exfalso
    have h2 : nI k ≤ nM := h1
    have h3 := Int32.le_trans h0 h2
    exact absurd h3 (by decide +kernel)
  | succ n =>
    rw [nI_sb, nI_leI hk (by omega)] at h1
    omega

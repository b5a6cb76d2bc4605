/-! ===== statutes, pure: codes one behind another ===== -/
set_option maxRecDepth 100000
abbrev lC : Type := Int32 × Int32
def l_st (f : Nat → Int32) (st : List Int32) (c : lC) : List Int32 := if c.1 = nI 0 then c.2 :: st else if c.1 = nI 1 then f c.2.toNatClampNeg :: st else match st with
  | v :: u :: r => t_by c.1 u v :: r
  | r => r
def l_ev (f : Nat → Int32) (L : List lC) (st : List Int32) : List Int32 := L.foldl (l_st f) st
def l_val (L : List lC) (f : Nat → Int32) : Int32 := (l_ev f L []).headD (nI 0)
theorem l_ev_a (f : Nat → Int32) (A B : List lC) (st : List Int32) : l_ev f (A ++ B) st = l_ev f B (l_ev f A st) := List.foldl_append
/-- codes of one term -/
def l_tr : Nat → List lC → Prop
  | 0, _ => False
  | d + 1, L => (∃ v, L = [(nI 0, v)]) ∨ (∃ j, j < 9 ∧ L = [(nI 1, nI j)]) ∨ ∃ z A B, 2 ≤ z ∧ z ≤ 8 ∧ l_tr d A ∧ l_tr d B ∧ L = A ++ B ++ [(nI z, nI 0)]
theorem l_tr_len : ∀ {d : Nat} {L : List lC}, l_tr d L → 0 < L.length
  | 0, _, h => h.elim
  | d + 1, L, h => by
    rcases h with ⟨v, rfl⟩ | ⟨j, _, rfl⟩ | ⟨z, A, B, _, _, _, _, rfl⟩
    · simp
    · simp
    · simp
      omega
theorem l_tr_m : ∀ {d : Nat} {L : List lC}, l_tr d L → ∀ m, L.length ≤ m → l_tr m L
  | 0, _, h => h.elim
  | d + 1, L, h => by
    intro m hm
    obtain ⟨m, rfl⟩ : ∃ m', m = m' + 1 := ⟨m - 1, by have := l_tr_len h; omega⟩
    rcases h with h | h | ⟨z, A, B, h1, h2, h3, h4, rfl⟩
    · exact Or.inl h
    · exact Or.inr (Or.inl h)
    · simp at hm
      exact Or.inr (Or.inr ⟨z, A, B, h1, h2, l_tr_m h3 m (by omega), l_tr_m h4 m (by omega), rfl⟩)
theorem l_z {z : Nat} (h1 : 2 ≤ z) (h2 : z ≤ 8) : ¬ nI z = nI 0 ∧ ¬ nI z = nI 1 := by
  have : ∀ z, z < 9 → 2 ≤ z → ¬ nI z = nI 0 ∧ ¬ nI z = nI 1 := by decide +kernel
  exact this z (by omega) h1
theorem l_st_0 {f : Nat → Int32} {st : List Int32} {v : Int32} : l_st f st (nI 0, v) = v :: st := if_pos rfl
theorem l_st_1 {f : Nat → Int32} {st : List Int32} {v : Int32} : l_st f st (nI 1, v) = f v.toNatClampNeg :: st := by
  unfold l_st
  rw [if_neg (show ¬ nI 1 = nI 0 by decide +kernel), if_pos rfl]
theorem l_st_z {f : Nat → Int32} {st : List Int32} {u v w : Int32} {z : Nat} (h1 : 2 ≤ z) (h2 : z ≤ 8) : l_st f (v :: u :: st) (nI z, w) = t_by (nI z) u v :: st := by
  unfold l_st
  rw [if_neg (l_z h1 h2).1, if_neg (l_z h1 h2).2]
theorem l_ev_x : ∀ {d : Nat} {L : List lC}, l_tr d L → ∀ f, ∃ v, ∀ st, l_ev f L st = v :: st
  | 0, _, h => h.elim
  | d + 1, L, h => by
    intro f
    rcases h with ⟨v, rfl⟩ | ⟨j, _, rfl⟩ | ⟨z, A, B, h1, h2, h3, h4, rfl⟩
    · exact ⟨v, fun st => l_st_0 (f := f)⟩
    · exact ⟨_, fun st => l_st_1 (f := f)⟩
    · obtain ⟨u, hu⟩ := l_ev_x h3 f
      obtain ⟨v, hv⟩ := l_ev_x h4 f
      exact ⟨t_by (nI z) u v, fun st => by rw [l_ev_a, l_ev_a, hu, hv]; exact l_st_z (f := f) h1 h2⟩
theorem l_ev_1 {d : Nat} {L : List lC} (h : l_tr d L) (f : Nat → Int32) (st : List Int32) : l_ev f L st = l_val L f :: st := by
  obtain ⟨v, hv⟩ := l_ev_x h f
  unfold l_val
  rw [hv, hv]
  rfl
theorem l_val_0 {v : Int32} (f : Nat → Int32) : l_val [(nI 0, v)] f = v := by
  show (l_st f [] (nI 0, v)).headD (nI 0) = v
  rw [l_st_0]
  rfl
theorem l_val_1 {v : Int32} (f : Nat → Int32) : l_val [(nI 1, v)] f = f v.toNatClampNeg := by
  show (l_st f [] (nI 1, v)).headD (nI 0) = _
  rw [l_st_1]
  rfl
theorem l_val_z {d : Nat} {z : Nat} {A B : List lC} {w : Int32} (h1 : 2 ≤ z) (h2 : z ≤ 8) (hA : l_tr d A) (hB : l_tr d B) (f : Nat → Int32) : l_val (A ++ B ++ [(nI z, w)]) f = t_by (nI z) (l_val A f) (l_val B f) := by
  conv => lhs; unfold l_val
  rw [l_ev_a, l_ev_a, l_ev_1 hA, l_ev_1 hB]
  show (l_st f _ (nI z, w)).headD (nI 0) = _
  rw [l_st_z h1 h2]
  rfl
/-- how high the stack stands -/
def l_d1 (s : Nat) (c : lC) : Nat := if c.1 = nI 0 ∨ c.1 = nI 1 then s + 1 else s - 1
def l_gd : Nat → List lC → Prop
  | _, [] => True
  | s, c :: L => (∃ z, z ≤ 8 ∧ c.1 = nI z ∧ (2 ≤ z → 2 ≤ s) ∧ (z = 1 → ∃ j, j < 9 ∧ c.2 = nI j)) ∧ l_gd (l_d1 s c) L
theorem l_gd_a : ∀ {A B : List lC} {s : Nat}, l_gd s A → l_gd (A.foldl l_d1 s) B → l_gd s (A ++ B)
  | [], _, _, _, h => h
  | _ :: _, _, _, h, h2 => ⟨h.1, l_gd_a h.2 h2⟩
theorem l_gd_at : ∀ {L : List lC} {s k : Nat} {c : lC}, l_gd s L → L[k]? = some c → ∃ z, z ≤ 8 ∧ c.1 = nI z ∧ (2 ≤ z → 2 ≤ (L.take k).foldl l_d1 s) ∧ (z = 1 → ∃ j, j < 9 ∧ c.2 = nI j)
  | [], _, _, _, _, h => by simp at h
  | a :: L, s, 0, c, h, h2 => by
    simp at h2
    subst h2
    exact h.1
  | a :: L, s, k + 1, c, h, h2 => l_gd_at (L := L) h.2 (by simpa using h2)
theorem l_tr_gd : ∀ {d : Nat} {L : List lC}, l_tr d L → ∀ s, l_gd s L ∧ L.foldl l_d1 s = s + 1
  | 0, _, h => h.elim
  | d + 1, L, h => by
    intro s
    rcases h with ⟨v, rfl⟩ | ⟨j, hj, rfl⟩ | ⟨z, A, B, h1, h2, h3, h4, rfl⟩
    · exact ⟨⟨⟨0, by omega, rfl, fun h => by omega, fun h => by omega⟩, trivial⟩, (if_pos (Or.inl rfl) : l_d1 s (nI 0, v) = s + 1)⟩
    · exact ⟨⟨⟨1, by omega, rfl, fun h => by omega, fun _ => ⟨j, hj, rfl⟩⟩, trivial⟩, (if_pos (Or.inr rfl) : l_d1 s (nI 1, nI j) = s + 1)⟩
    · obtain ⟨a1, a2⟩ := l_tr_gd h3 s
      obtain ⟨b1, b2⟩ := l_tr_gd h4 (s + 1)
      refine ⟨l_gd_a (l_gd_a a1 (by rw [a2]; exact b1)) ?_, ?_⟩
      · rw [List.foldl_append, a2, b2]
        exact ⟨⟨z, h2, rfl, fun _ => by omega, fun h => by omega⟩, trivial⟩
      · rw [List.foldl_append, List.foldl_append, a2, b2]
        show (if _ then _ else _) = _
        rw [if_neg (fun q => q.elim (l_z h1 h2).1 (l_z h1 h2).2)]
        omega
/-- the codes L from b on -/
def t_cds (I : tI) (b : Nat) (L : List lC) : Prop := ∀ (j : Nat) (x : lC), L[j]? = some x → I (b + j) 0 = x.1 ∧ I (b + j) 1 = x.2
theorem t_cds_ev {I : tI} {L : List lC} (h : t_cds I 200 L) (f : Nat → Int32) : ∀ k, k ≤ L.length → t_ev I f k = l_ev f (L.take k) []
  | 0, _ => rfl
  | k + 1, hk => by
    obtain ⟨e1, e2⟩ := h k L[k] (List.getElem?_eq_getElem (by omega))
    have et : L.take (k + 1) = L.take k ++ [L[k]] := by rw [List.take_succ, List.getElem?_eq_getElem (by omega)]; rfl
    rw [et, l_ev_a, ← t_cds_ev h f k (by omega)]
    show t_ev I f (k + 1) = l_st f (t_ev I f k) L[k]
    unfold l_st
    conv => lhs; unfold t_ev
    rw [e1, e2]
    rfl
theorem t_cds_dp {I : tI} {L : List lC} (h : t_cds I 200 L) : ∀ k, k ≤ L.length → t_dep I k = (L.take k).foldl l_d1 0
  | 0, _ => rfl
  | k + 1, hk => by
    obtain ⟨e1, e2⟩ := h k L[k] (List.getElem?_eq_getElem (by omega))
    have et : L.take (k + 1) = L.take k ++ [L[k]] := by rw [List.take_succ, List.getElem?_eq_getElem (by omega)]; rfl
    rw [et, List.foldl_append, ← t_cds_dp h k (by omega)]
    show t_dep I (k + 1) = l_d1 (t_dep I k) L[k]
    unfold l_d1
    conv => lhs; unfold t_dep
    rw [e1]
theorem t_lok_of {I : tI} {d : Nat} {L : List lC} (h27 : I 0 27 = nI L.length) (hn : L.length ≤ 160) (ht : l_tr d L) (h : t_cds I 200 L) : t_lok I ∧ t_law I = l_val L := by
  have elm : t_lm I = L.length := by unfold t_lm; rw [h27, nI_clamp (by omega)]
  obtain ⟨g1, g2⟩ := l_tr_gd ht 0
  have hl := l_tr_len ht
  refine ⟨⟨by rw [elm]; exact h27, by omega, fun k hk => ?_, fun _ => ?_⟩, ?_⟩
  · rw [elm] at hk
    have ek := List.getElem?_eq_getElem hk
    obtain ⟨e1, e2⟩ := h k _ ek
    rw [e1, e2, t_cds_dp h k (by omega)]
    exact l_gd_at g1 ek
  · rw [elm, t_cds_dp h _ (Nat.le_refl _), List.take_length]
    exact g2
  · funext f
    unfold t_law
    rw [if_neg (by rw [h27]; exact fun q => by have := congrArg Int32.toNatClampNeg q; rw [nI_clamp (by omega), nI_clamp (by omega)] at this; omega), elm, t_cds_ev h f _ (Nat.le_refl _), List.take_length]
    rfl
/-! the reader, pure -/
def l_op1 (c : Int32) : Int32 := if c = nI 43 then nI 2 else if c = nI 45 then nI 3 else nM
def l_op2 (c : Int32) : Int32 := if c = nI 42 then nI 4 else if c = nI 47 then nI 5 else if c = nI 37 then nI 6 else nM
def p_chF (f : Nat → Int32) (n : Nat) (op : Int32 → Int32) (item : Nat → pR (List lC)) : Nat → List lC → Nat → pR (List lC)
  | 0, L, k => .inr (L, p_bl f n k)
  | u + 1, L, k => if op (p_at f n (p_bl f n k)) = nM then .inr (L, p_bl f n k) else p_bd (item (p_bl f n k + 1)) fun B k' => p_chF f n op item u (L ++ B ++ [(op (p_at f n (p_bl f n k)), nI 0)]) k'
def p_ch (f : Nat → Int32) (n : Nat) (op : Int32 → Int32) (item : Nat → pR (List lC)) (k : Nat) : pR (List lC) := p_bd (item k) fun L k => p_chF f n op item (n + 1) L k
def p_kno (W : List Nat) : Int32 :=
  if W = p_wi 12 9 13 16 0 0 0 then nI 0 else if W = p_wi 6 1 12 12 0 0 0 then nI 1 else if W = p_wi 1 7 5 0 0 0 0 then nI 2 else if W = p_wi 23 15 18 11 19 0 0 then nI 3 else
  if W = p_wi 19 20 18 9 14 7 19 then nI 4 else if W = p_wi 25 5 1 18 0 0 0 then nI 5 else if W = p_wi 14 21 13 2 5 18 0 then nI 6 else if W = p_wi 16 21 16 16 5 20 0 then nI 7 else if W = p_wi 11 9 14 0 0 0 0 then nI 8 else nM
def p_two (f : Nat → Int32) (n : Nat) (sm : Option (Nat → pR (List lC))) (z : Int32) (b : Nat) : pR (List lC) := match sm with
  | none => .inl (nI 3, b)
  | some s => p_go (p_sign f n (nI 91) (p_le f n b)) fun k => p_bd (s k) fun A k => p_go (p_sign f n (nI 44) k) fun k => p_bd (s k) fun B k => p_go (p_sign f n (nI 93) k) fun k => .inr (A ++ B ++ [(z, nI 0)], k)
def p_par (f : Nat → Int32) (n : Nat) (sm : Option (Nat → pR (List lC))) (b : Nat) : pR (List lC) := match sm with
  | none => .inl (nI 3, b)
  | some s => p_bd (s (b + 1)) fun A k => p_go (p_sign f n (nI 41) k) fun k => .inr (A, k)
def p_unit (f : Nat → Int32) (n : Nat) (sm : Option (Nat → pR (List lC))) (k : Nat) : pR (List lC) :=
  if p_ls f n (p_bl f n k) = p_wi 12 5 1 19 20 0 0 then p_two f n sm (nI 7) (p_bl f n k) else
  if p_ls f n (p_bl f n k) = p_wi 13 15 19 20 0 0 0 then p_two f n sm (nI 8) (p_bl f n k) else
  if p_at f n (p_bl f n k) = nI 40 then p_par f n sm (p_bl f n k) else
  if p_kno (p_ls f n (p_bl f n k)) = nM then p_bd (p_number f n (nI 0) (nI 999) (p_bl f n k)) fun v k => .inr ([(nI 0, v)], k) else
  .inr ([(nI 1, p_kno (p_ls f n (p_bl f n k)))], p_le f n (p_bl f n k))
def p_prodW (f : Nat → Int32) (n : Nat) (sm : Option (Nat → pR (List lC))) (k : Nat) : pR (List lC) := p_ch f n l_op2 (p_unit f n sm) k
def p_sumW (f : Nat → Int32) (n : Nat) (sm : Option (Nat → pR (List lC))) (k : Nat) : pR (List lC) := p_ch f n l_op1 (p_prodW f n sm) k
/-- with d levels more -/
def p_sum (f : Nat → Int32) (n : Nat) : Nat → Nat → pR (List lC)
  | 0 => p_sumW f n none
  | d + 1 => p_sumW f n (some (p_sum f n d))
def p_sm (f : Nat → Int32) (n : Nat) (d : Nat) : Option (Nat → pR (List lC)) := match d with
  | 0 => none
  | d + 1 => some (p_sum f n d)
theorem p_sum_eq {f : Nat → Int32} {n : Nat} : ∀ d, p_sum f n d = p_sumW f n (p_sm f n d)
  | 0 => rfl
  | _ + 1 => rfl
theorem l_op_nM : l_op1 nM = nM ∧ l_op2 nM = nM := by decide +kernel
theorem l_op1_c (c : Int32) : l_op1 c = nM ∨ ∃ z, 2 ≤ z ∧ z ≤ 8 ∧ l_op1 c = nI z := by
  unfold l_op1
  split
  · exact Or.inr ⟨2, by decide, by decide, rfl⟩
  · split
    · exact Or.inr ⟨3, by decide, by decide, rfl⟩
    · exact Or.inl rfl
theorem l_op2_c (c : Int32) : l_op2 c = nM ∨ ∃ z, 2 ≤ z ∧ z ≤ 8 ∧ l_op2 c = nI z := by
  unfold l_op2
  split
  · exact Or.inr ⟨4, by decide, by decide, rfl⟩
  · split
    · exact Or.inr ⟨5, by decide, by decide, rfl⟩
    · split
      · exact Or.inr ⟨6, by decide, by decide, rfl⟩
      · exact Or.inl rfl
/-- what reads a term -/
def l_it (n : Nat) (g : Nat → pR (List lC)) : Prop := ∀ k L k', k ≤ n → g k = .inr (L, k') → k + L.length ≤ k' ∧ k' ≤ n ∧ ∃ e, l_tr e L
theorem l_tr_z {z : Nat} {A B : List lC} {a b : Nat} (h1 : 2 ≤ z) (h2 : z ≤ 8) (hA : l_tr a A) (hB : l_tr b B) : ∃ e, l_tr e (A ++ B ++ [(nI z, nI 0)]) :=
  ⟨A.length + B.length + 1, Or.inr (Or.inr ⟨z, A, B, h1, h2, l_tr_m hA _ (by omega), l_tr_m hB _ (by omega), rfl⟩)⟩
theorem p_at_lt {f : Nat → Int32} {n b : Nat} {c : Int32} (h : p_at f n b = c) (hc : ¬ c = nM) : b < n := by
  rcases Nat.lt_or_ge b n with q | q
  · exact q
  · rw [p_at_f (by omega)] at h
    exact absurd h.symm hc
theorem l_it_chF {f : Nat → Int32} {n : Nat} {op : Int32 → Int32} {item : Nat → pR (List lC)} (ho : op nM = nM) (hop : ∀ c, op c = nM ∨ ∃ z, 2 ≤ z ∧ z ≤ 8 ∧ op c = nI z) (hi : l_it n item) (k0 : Nat) :
    ∀ u L k L' k', k ≤ n → k0 + L.length ≤ k → (∃ e, l_tr e L) → p_chF f n op item u L k = .inr (L', k') → k0 + L'.length ≤ k' ∧ k' ≤ n ∧ ∃ e, l_tr e L' := by
  intro u
  induction u with
  | zero =>
    intro L k L' k' hk h0 ht h
    have h := Sum.inr.inj h
    have e1 := congrArg Prod.fst h
    have e2 := congrArg Prod.snd h
    simp only at e1 e2
    subst e1
    subst e2
    have := p_bl_in (f := f) hk
    exact ⟨by omega, this.2, ht⟩
  | succ u ih =>
    intro L k L' k' hk h0 ht h
    have hb := p_bl_in (f := f) hk
    unfold p_chF at h
    rcases hop (p_at f n (p_bl f n k)) with e | ⟨z, h1, h2, e⟩
    · rw [if_pos e] at h
      have h := Sum.inr.inj h
      have e1 := congrArg Prod.fst h
      have e2 := congrArg Prod.snd h
      simp only at e1 e2
      subst e1
      subst e2
      exact ⟨by omega, hb.2, ht⟩
    · rw [if_neg (by rw [e]; exact nM_ne (by omega))] at h
      have hlt : p_bl f n k < n := by
        rcases Nat.lt_or_ge (p_bl f n k) n with q | q
        · exact q
        · rw [p_at_f (by omega), ho] at e
          exact absurd e.symm (nM_ne (by omega))
      obtain ⟨B, k2, hB, h⟩ := p_bd_r h
      obtain ⟨b1, b2, e2, b3⟩ := hi _ _ _ (by omega) hB
      obtain ⟨e1, ht⟩ := ht
      rw [e] at h
      exact ih _ _ _ _ b2 (by simp; omega) (l_tr_z h1 h2 ht b3) h
theorem l_it_ch {f : Nat → Int32} {n : Nat} {op : Int32 → Int32} {item : Nat → pR (List lC)} (ho : op nM = nM) (hop : ∀ c, op c = nM ∨ ∃ z, 2 ≤ z ∧ z ≤ 8 ∧ op c = nI z) (hi : l_it n item) : l_it n (p_ch f n op item) := by
  intro k L k' hk h
  obtain ⟨A, k1, hA, h⟩ := p_bd_r h
  obtain ⟨a1, a2, a3⟩ := hi _ _ _ hk hA
  exact l_it_chF ho hop hi k (n + 1) A k1 L k' a2 a1 a3 h
theorem p_go_r {α : Type} {p : pP} {g : Nat → pR α} {r : α × Nat} (h : p_go p g = .inr r) : ∃ k, p = .inr k ∧ g k = .inr r := by
  cases p with
  | inl e => cases h
  | inr k => exact ⟨k, rfl, h⟩
theorem p_sign_in {f : Nat → Int32} {n k k' : Nat} {c : Int32} (hc : ¬ c = nM) (hk : k ≤ n) (h : p_sign f n c k = .inr k') : k + 1 ≤ k' ∧ k' ≤ n := by
  have hb := p_bl_in (f := f) hk
  unfold p_sign at h
  split at h
  · rename_i e
    have := p_at_lt e hc
    have h := Sum.inr.inj h
    omega
  · cases h
theorem p_kno_c (W : List Nat) : p_kno W = nM ∨ ((∃ j, j < 9 ∧ p_kno W = nI j) ∧ 0 < W.length) := by
  unfold p_kno
  by_cases h0 : W = p_wi 12 9 13 16 0 0 0
  · rw [if_pos h0]; exact Or.inr ⟨⟨0, by decide, rfl⟩, by rw [h0]; decide +kernel⟩
  rw [if_neg h0]
  by_cases h1 : W = p_wi 6 1 12 12 0 0 0
  · rw [if_pos h1]; exact Or.inr ⟨⟨1, by decide, rfl⟩, by rw [h1]; decide +kernel⟩
  rw [if_neg h1]
  by_cases h2 : W = p_wi 1 7 5 0 0 0 0
  · rw [if_pos h2]; exact Or.inr ⟨⟨2, by decide, rfl⟩, by rw [h2]; decide +kernel⟩
  rw [if_neg h2]
  by_cases h3 : W = p_wi 23 15 18 11 19 0 0
  · rw [if_pos h3]; exact Or.inr ⟨⟨3, by decide, rfl⟩, by rw [h3]; decide +kernel⟩
  rw [if_neg h3]
  by_cases h4 : W = p_wi 19 20 18 9 14 7 19
  · rw [if_pos h4]; exact Or.inr ⟨⟨4, by decide, rfl⟩, by rw [h4]; decide +kernel⟩
  rw [if_neg h4]
  by_cases h5 : W = p_wi 25 5 1 18 0 0 0
  · rw [if_pos h5]; exact Or.inr ⟨⟨5, by decide, rfl⟩, by rw [h5]; decide +kernel⟩
  rw [if_neg h5]
  by_cases h6 : W = p_wi 14 21 13 2 5 18 0
  · rw [if_pos h6]; exact Or.inr ⟨⟨6, by decide, rfl⟩, by rw [h6]; decide +kernel⟩
  rw [if_neg h6]
  by_cases h7 : W = p_wi 16 21 16 16 5 20 0
  · rw [if_pos h7]; exact Or.inr ⟨⟨7, by decide, rfl⟩, by rw [h7]; decide +kernel⟩
  rw [if_neg h7]
  by_cases h8 : W = p_wi 11 9 14 0 0 0 0
  · rw [if_pos h8]; exact Or.inr ⟨⟨8, by decide, rfl⟩, by rw [h8]; decide +kernel⟩
  rw [if_neg h8]
  exact Or.inl rfl
theorem p_number_1 {f : Nat → Int32} {n k k' : Nat} {lo hi v : Int32} (hk : k ≤ n) (h : p_number f n lo hi k = .inr (v, k')) : k + 1 ≤ k' ∧ k' ≤ n := by
  have hb := p_bl_in (f := f) hk
  unfold p_number at h
  split at h
  · rename_i hd
    split at h
    · have hlt := p_dig_lt hd
      rw [p_at_t hlt] at hd
      have h := congrArg Prod.snd (Sum.inr.inj h)
      rw [p_nm_t hlt hd] at h
      have := p_nm_in (f := f) (n := n) (v := p_dv (nI 0) (f (p_bl f n k))) (Nat.le_refl _) (show p_bl f n k + 1 ≤ n by omega)
      rw [h] at this
      simp only at this
      omega
    · cases h
  · cases h
def l_its (n : Nat) (sm : Option (Nat → pR (List lC))) : Prop := ∀ s, sm = some s → l_it n s
theorem l_it_two {f : Nat → Int32} {n : Nat} {sm : Option (Nat → pR (List lC))} (hs : l_its n sm) {z b k' : Nat} {L : List lC} (h1 : 2 ≤ z) (h2 : z ≤ 8) (hb : b ≤ n) (h : p_two f n sm (nI z) b = .inr (L, k')) : b + L.length ≤ k' ∧ k' ≤ n ∧ ∃ e, l_tr e L := by
  unfold p_two at h
  match sm, h with
  | some s, h =>
    have hs := hs s rfl
    obtain ⟨k0, e0, h⟩ := p_go_r h
    obtain ⟨A, k1, e1, h⟩ := p_bd_r h
    obtain ⟨k2, e2, h⟩ := p_go_r h
    obtain ⟨B, k3, e3, h⟩ := p_bd_r h
    obtain ⟨k4, e4, h⟩ := p_go_r h
    have hl := p_le_in (f := f) hb
    have g0 := p_sign_in (by decide +kernel) hl.2 e0
    obtain ⟨g1, g1', t1, g1''⟩ := hs _ _ _ g0.2 e1
    have g2 := p_sign_in (by decide +kernel) g1' e2
    obtain ⟨g3, g3', t3, g3''⟩ := hs _ _ _ g2.2 e3
    have g4 := p_sign_in (by decide +kernel) g3' e4
    have h := Sum.inr.inj h
    have q1 := congrArg Prod.fst h
    have q2 := congrArg Prod.snd h
    simp only at q1 q2
    subst q1
    subst q2
    exact ⟨by simp; omega, g4.2, l_tr_z h1 h2 g1'' g3''⟩
theorem l_it_unit {f : Nat → Int32} {n : Nat} {sm : Option (Nat → pR (List lC))} (hs : l_its n sm) : l_it n (p_unit f n sm) := by
  intro k L k' hk h
  have hb := p_bl_in (f := f) hk
  unfold p_unit at h
  split at h
  · have := l_it_two hs (by decide) (by decide) hb.2 h
    exact ⟨by omega, this.2⟩
  · split at h
    · have := l_it_two hs (by decide) (by decide) hb.2 h
      exact ⟨by omega, this.2⟩
    · split at h
      · rename_i hc
        have hlt := p_at_lt hc (by decide +kernel)
        unfold p_par at h
        match sm, h with
        | some s, h =>
          have hs := hs s rfl
          obtain ⟨A, k1, e1, h⟩ := p_bd_r h
          obtain ⟨k2, e2, h⟩ := p_go_r h
          obtain ⟨g1, g1', g1''⟩ := hs _ _ _ (by omega) e1
          have g2 := p_sign_in (by decide +kernel) g1' e2
          have h := Sum.inr.inj h
          have q1 := congrArg Prod.fst h
          have q2 := congrArg Prod.snd h
          simp only at q1 q2
          subst q1
          subst q2
          exact ⟨by omega, g2.2, g1''⟩
      · split at h
        · obtain ⟨v, k1, e1, h⟩ := p_bd_r h
          have g := p_number_1 hb.2 e1
          have h := Sum.inr.inj h
          have q1 := congrArg Prod.fst h
          have q2 := congrArg Prod.snd h
          simp only at q1 q2
          subst q1
          subst q2
          exact ⟨by simp; omega, g.2, 1, Or.inl ⟨v, rfl⟩⟩
        · rename_i hc
          rcases p_kno_c (p_ls f n (p_bl f n k)) with q | ⟨⟨j, hj, e⟩, hl⟩
          · exact absurd q hc
          · rw [p_ls_n] at hl
            have g := p_le_in (f := f) hb.2
            rw [e] at h
            have h := Sum.inr.inj h
            have q1 := congrArg Prod.fst h
            have q2 := congrArg Prod.snd h
            simp only at q1 q2
            subst q1
            subst q2
            exact ⟨by simp; omega, g.2, 1, Or.inr (Or.inl ⟨j, hj, rfl⟩)⟩
theorem l_it_prod {f : Nat → Int32} {n : Nat} {sm : Option (Nat → pR (List lC))} (hs : l_its n sm) : l_it n (p_prodW f n sm) := l_it_ch l_op_nM.2 l_op2_c (l_it_unit hs)
theorem l_it_sum {f : Nat → Int32} {n : Nat} : ∀ d, l_it n (p_sum f n d) ∧ l_its n (p_sm f n d)
  | 0 => ⟨l_it_ch l_op_nM.1 l_op1_c (l_it_prod fun s h => by cases h), fun s h => by cases h⟩
  | d + 1 => ⟨l_it_ch l_op_nM.1 l_op1_c (l_it_prod fun s h => by cases h; exact (l_it_sum d).1), fun s h => by cases h; exact (l_it_sum d).1⟩

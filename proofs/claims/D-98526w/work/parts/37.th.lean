/-! ===== the reference's whole state ===== -/
set_option maxRecDepth 100000
def t_l (I : tI) : Nat := (I 0 41).toNatClampNeg
def t_im (I : tI) : Nat := (I 0 43).toNatClampNeg
def t_tp (I : tI) : Nat := (I 0 1).toNatClampNeg
def t_am (I : tI) (a : Nat) : Nat := if a < t_a I then (I (150 + a) 1).toNatClampNeg else 0
def tX (I : tI) : gX := ((fun h => if h < 9 then I 18 h else nI 0), (fun h g => if h < 9 ∧ g < 9 then I (170 + h) g else nI 0), t_a I, (fun a => if a < t_a I then I (150 + a) 0 else nI 0), t_am I, (fun a i => if i < t_am I a then (I (150 + a) (2 + i)).toNatClampNeg else 0))
def tN (I : tI) : gN := (tA I 38, tA I 36, tA I 37, I 0 42, t_im I, (fun k => if k < t_im I then tA I (640 + k) else tA I 38), t_l I, (fun k i => if k < t_l I ∧ i < 3 then I (600 + k) i else nI 0), t_tp I, (fun k => if k < t_tp I then I 9 k else nI 0), I 0 3, (fun k => if k < 2 then I 10 k else nI 0))
def tG (I : tI) : gG := (tK I, tX I, tN I)
def t_good (I : tI) : Prop := t_ok I ∧ t_lok I ∧ I 0 45 = nI 0 ∧ (I 0 41 = nI (t_l I) ∧ t_l I ≤ 12) ∧ (I 0 43 = nI (t_im I) ∧ t_im I ≤ 3) ∧ (I 0 1 = nI (t_tp I) ∧ t_tp I ≤ 600) ∧ (∀ a, a < t_a I → I (150 + a) 1 = nI (t_am I a) ∧ t_am I a ≤ 6 ∧ ∀ i, i < t_am I a → ∃ p, p < t_p I ∧ I (150 + a) (2 + i) = nI p) ∧ (∀ k, k < t_l I → ∃ p h y, p < t_p I ∧ h < t_h I ∧ I (600 + k) 1 = nI p ∧ I (600 + k) 2 = nI h ∧ I (600 + k) 0 = nI y ∧ 1 ≤ y ∧ y ≤ 60)
/-- only scratch is changed -/
def t_free (b : Nat) : Prop := t_scr b ∨ b = 39 ∨ b = 40 ∨ (46 ≤ b ∧ b ≤ 50) ∨ b = 54 ∨ b = 55
def t_sp (I J : tI) : Prop := (∀ b, b ≠ 0 → ¬ t_free b → J b = I b) ∧ ∀ k, k ≠ 0 → ¬ t_scf k → k ≠ 44 → J 0 k = I 0 k
theorem t_sp.rf {I : tI} : t_sp I I := ⟨fun _ _ _ => rfl, fun _ _ _ _ => rfl⟩
theorem t_sp.tr {I J L : tI} (h : t_sp I J) (h2 : t_sp J L) : t_sp I L := ⟨fun b a c => (h2.1 b a c).trans (h.1 b a c), fun k a b c => (h2.2 k a b c).trans (h.2 k a b c)⟩
theorem t_sl.sp {r : Nat} {I J : tI} (h : t_sl r I J) (hr : t_free r) : t_sp I J := ⟨fun b hb hf => h.1 b (fun e => hf (e ▸ hr)) hb (fun q => hf (Or.inl q)), fun k _ a b => h.2 k a b⟩
theorem t_sp.u0 {I : tI} {v : Int32} : t_sp I (xm_u2 I 0 0 v) := ⟨fun b hb _ => funext fun j => xm_u2_ne hb j, fun k hk _ _ => by rw [xm_u2_at, if_neg hk]⟩
theorem t_f34 : t_free 34 := Or.inl (Or.inl rfl)
theorem t_f39 : t_free 39 := Or.inr (Or.inl rfl)
theorem t_f40 : t_free 40 := Or.inr (Or.inr (Or.inl rfl))
theorem t_sp.fx {I J : tI} (h : t_sp I J) : ∀ b, t_fx b → J b = I b := fun b hb => h.1 b (t_fx_scr hb).2 (fun q => by
  rcases q with q | q
  · exact (t_fx_scr hb).1 q
  · unfold t_fx at hb; omega)
theorem t_nf {b : Nat} (h : b < 34 ∨ (35 < b ∧ b < 39) ∨ 55 < b) : ¬ t_free b := by unfold t_free t_scr; omega
/-- what is good stays, where these places stay -/
def t_same (I J : tI) : Prop := (∀ b, (b = 12 ∨ b = 14 ∨ b = 16 ∨ b = 18 ∨ (110 ≤ b ∧ b < 119) ∨ (130 ≤ b ∧ b < 138) ∨ (150 ≤ b ∧ b < 156) ∨ (170 ≤ b ∧ b < 179) ∨ (200 ≤ b ∧ b < 360) ∨ (600 ≤ b ∧ b < 612)) → J b = I b) ∧ J 0 27 = I 0 27 ∧ J 0 41 = I 0 41 ∧ J 0 45 = I 0 45
theorem t_same.K {I J : tI} (h : t_same I J) (hg : t_good I) : tK J = tK I := tK_eq hg.1 hg.2.1 (fun b hb => h.1 b (by unfold t_fx at hb; omega)) h.2.1
theorem t_same.X {I J : tI} (h : t_same I J) (hg : t_good I) : tX J = tX I := by
  have e12 := h.1 12 (by omega)
  have ea : t_a J = t_a I := by unfold t_a; rw [e12]
  have ha : t_a I ≤ 6 := hg.1.2.2.2.2.2
  have em : ∀ a, t_am J a = t_am I a := fun a => by
    unfold t_am
    rw [ea]
    by_cases q : a < t_a I
    · rw [if_pos q, if_pos q, h.1 (150 + a) (by omega)]
    · rw [if_neg q, if_neg q]
  have e : ∀ (α : Type) (c : Prop) [Decidable c] (x y z : α), (c → x = y) → (if c then x else z) = (if c then y else z) := fun α c _ x y z q => by
    by_cases hc : c
    · rw [if_pos hc, if_pos hc, q hc]
    · rw [if_neg hc, if_neg hc]
  have em' : t_am J = t_am I := funext em
  unfold tX
  rw [ea, em', h.1 18 (by omega)]
  have e1 : (fun h g => if h < 9 ∧ g < 9 then J (170 + h) g else nI 0) = (fun h g => if h < 9 ∧ g < 9 then I (170 + h) g else nI 0) := funext fun a => funext fun g => e _ _ _ _ _ fun q => by rw [h.1 (170 + a) (by omega)]
  have e2 : (fun a => if a < t_a I then J (150 + a) 0 else nI 0) = (fun a => if a < t_a I then I (150 + a) 0 else nI 0) := funext fun a => e _ _ _ _ _ fun q => by rw [h.1 (150 + a) (by omega)]
  have e3 : (fun a i => if i < t_am I a then (J (150 + a) (2 + i)).toNatClampNeg else 0) = (fun a i => if i < t_am I a then (I (150 + a) (2 + i)).toNatClampNeg else 0) := funext fun a => funext fun i => e _ _ _ _ _ fun q => by
    have : a < t_a I := Classical.byContradiction fun hn => by
      unfold t_am at q
      rw [if_neg hn] at q
      omega
    rw [h.1 (150 + a) (by omega)]
  rw [e1, e2, e3]
theorem t_same.good {I J : tI} (h : t_same I J) (hg : t_good I) (h43 : J 0 43 = nI (t_im J) ∧ t_im J ≤ 3) (h1 : J 0 1 = nI (t_tp J) ∧ t_tp J ≤ 600) : t_good J := by
  obtain ⟨g1, g2, g3, g4, -, -, g7, g8⟩ := hg
  have e12 := h.1 12 (by omega)
  have el : t_l J = t_l I := by unfold t_l; rw [h.2.2.1]
  have ea : t_a J = t_a I := by unfold t_a; rw [e12]
  have ha : t_a I ≤ 6 := g1.2.2.2.2.2
  have em : ∀ a, a < t_a I → t_am J a = t_am I a := fun a q => by
    unfold t_am
    rw [ea, if_pos q, if_pos q, h.1 (150 + a) (by omega)]
  refine ⟨t_ok_eq g1 e12, t_lok_eq g2 (fun k hk => h.1 _ (by omega)) h.2.1, by rw [h.2.2.2]; exact g3, by rw [h.2.2.1, el]; exact g4, h43, h1, fun a q => ?_, fun k q => ?_⟩
  · rw [ea] at q
    rw [em a q, h.1 (150 + a) (by omega), t_p_eq e12]
    exact g7 a q
  · rw [el] at q
    rw [t_p_eq e12, t_h_eq e12, h.1 (600 + k) (by omega)]
    exact g8 k q
theorem t_sp.same {I J : tI} (h : t_sp I J) : t_same I J := by
  refine ⟨fun b hb => h.1 b (by omega) (t_nf (by omega)), h.2 27 (by omega) (by unfold t_scf; omega) (by omega), h.2 41 (by omega) (by unfold t_scf; omega) (by omega), h.2 45 (by omega) (by unfold t_scf; omega) (by omega)⟩
theorem t_sp.N {I J : tI} (h : t_sp I J) (hg : t_good I) : tN J = tN I := by
  have f : ∀ k, k ≠ 0 → k < 44 → J 0 k = I 0 k := fun k hk q => h.2 k hk (by unfold t_scf; omega) (by omega)
  have ei : t_im J = t_im I := by unfold t_im; rw [f 43 (by omega) (by omega)]
  have el : t_l J = t_l I := by unfold t_l; rw [f 41 (by omega) (by omega)]
  have et : t_tp J = t_tp I := by unfold t_tp; rw [f 1 (by omega) (by omega)]
  have a : ∀ r, (r = 36 ∨ r = 37 ∨ r = 38 ∨ 639 < r) → tA J r = tA I r := fun r hr => tA_eq fun k _ => by rw [h.1 r (by omega) (t_nf (by omega))]
  have b : ∀ r, (r = 9 ∨ r = 10 ∨ 599 < r) → J r = I r := fun r hr => h.1 r (by omega) (t_nf (by omega))
  unfold tN
  rw [ei, el, et, a 36 (by omega), a 37 (by omega), a 38 (by omega), f 42 (by omega) (by omega), f 3 (by omega) (by omega), b 9 (by omega), b 10 (by omega)]
  have e1 : (fun k => tA J (640 + k)) = fun k => tA I (640 + k) := funext fun k => a _ (by omega)
  have e2 : (fun k => J (600 + k)) = fun k => I (600 + k) := funext fun k => b _ (by omega)
  have e1' := fun k => congrFun e1 k
  have e2' := fun k => congrFun e2 k
  simp only [e1', e2']
theorem t_sp.G {I J : tI} (h : t_sp I J) (hg : t_good I) : tG J = tG I := by
  unfold tG
  rw [h.same.K hg, h.same.X hg, h.N hg]
theorem t_sp.good {I J : tI} (h : t_sp I J) (hg : t_good I) : t_good J := by
  have f : ∀ k, k ≠ 0 → k < 44 → J 0 k = I 0 k := fun k hk q => h.2 k hk (by unfold t_scf; omega) (by omega)
  refine h.same.good hg ?_ ?_
  · have : t_im J = t_im I := by unfold t_im; rw [f 43 (by omega) (by omega)]
    rw [this, f 43 (by omega) (by omega)]
    exact hg.2.2.2.2.1
  · have : t_tp J = t_tp I := by unfold t_tp; rw [f 1 (by omega) (by omega)]
    rw [this, f 1 (by omega) (by omega)]
    exact hg.2.2.2.2.2.1
/-- what a public method owes -/
def t_P (Q : Option Value → tI → Prop) (r : gR) : Prop := ∀ J, t_good J → tG J = r.2.2 → J 0 0 = r.1 → Q (some (.int r.2.1)) J
theorem t_ask {Q : Option Value → tI → Prop} {I J : tI} {v x : Int32} (h : t_P Q (g_says (tG I) v)) (hg : t_good I) (hs : t_sp I J) (h0 : J 0 0 = nI 0) (hx : x = v) : Q (some (.int x)) J := by
  rw [hx]
  exact h J (hs.good hg) (hs.G hg) h0
theorem t_ref {Q : Option Value → tI → Prop} {I : tI} {c : Bool} {what x : Int32} {r : Nat} {y : gR} (h : t_P Q (g_ck (tG I) c what r y)) (hg : t_good I) (hc : c = false) (hr : r < 2) (hx : x = nI 0) {u : tI} (hu : u = xm_u2 (xm_u2 (xm_u2 I 0 0 (nI 0)) 0 0 what) 10 r (I 10 r + nI 1)) : Q (some (.int x)) u := by
  subst hc
  rw [hx]
  have o : ∀ b, b ≠ 0 → b ≠ 10 → u b = I b := fun b h1 h2 => by
    rw [hu]
    exact funext fun j => by rw [xm_u2_ne h2, xm_u2_ne h1, xm_u2_ne h1]
  have f : ∀ k, k ≠ 0 → u 0 k = I 0 k := fun k hk => by
    rw [hu, xm_u2_ne (by decide), xm_u2_at, if_neg hk, xm_u2_at, if_neg hk]
  have ss : t_same I u := ⟨fun b hb => o b (by omega) (by omega), f 27 (by omega), f 41 (by omega), f 45 (by omega)⟩
  have ei : t_im u = t_im I := by unfold t_im; rw [f 43 (by omega)]
  have el : t_l u = t_l I := by unfold t_l; rw [f 41 (by omega)]
  have et : t_tp u = t_tp I := by unfold t_tp; rw [f 1 (by omega)]
  refine h u (ss.good hg ?_ ?_) ?_ ?_
  · rw [ei, f 43 (by omega)]; exact hg.2.2.2.2.1
  · rw [et, f 1 (by omega)]; exact hg.2.2.2.2.2.1
  · show tG u = g_ref (tG I) r
    unfold tG g_ref g_setN
    rw [ss.K hg, ss.X hg]
    have e : tN u = (tA I 38, tA I 36, tA I 37, I 0 42, t_im I, (fun k => if k < t_im I then tA I (640 + k) else tA I 38), t_l I, (fun k i => if k < t_l I ∧ i < 3 then I (600 + k) i else nI 0), t_tp I, (fun k => if k < t_tp I then I 9 k else nI 0), I 0 3, g_upd (fun k => if k < 2 then I 10 k else nI 0) r ((fun k => if k < 2 then I 10 k else nI 0) r + nI 1)) := by
      unfold tN
      have a : ∀ r, (r = 36 ∨ r = 37 ∨ r = 38 ∨ 639 < r) → tA u r = tA I r := fun r hr => tA_eq fun k _ => by rw [o r (by omega) (by omega)]
      have e1' : ∀ k, tA u (640 + k) = tA I (640 + k) := fun k => a _ (by omega)
      have e2' : ∀ k, u (600 + k) = I (600 + k) := fun k => o _ (by omega) (by omega)
      rw [ei, el, et, a 36 (by omega), a 37 (by omega), a 38 (by omega), f 42 (by omega), f 3 (by omega), o 9 (by omega) (by omega)]
      have e3 : (fun k => if k < 2 then u 10 k else nI 0) = g_upd (fun k => if k < 2 then I 10 k else nI 0) r ((fun k => if k < 2 then I 10 k else nI 0) r + nI 1) := by
        funext k
        unfold g_upd
        rw [hu, xm_u2_at]
        by_cases q : k = r
        · subst q
          simp [hr]
        · simp [q, xm_u2]
      rw [e3]
      simp only [e1', e2']
    rw [e]
    rfl
  · show u 0 0 = what
    rw [hu, xm_u2_ne (by decide), xm_u2_at, if_pos rfl]

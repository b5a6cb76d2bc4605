/-! ===== the reference: a hand's limpness put otherwise ===== -/
set_option maxRecDepth 100000
def g_limpK (K : gK) (h : Nat) (v : Int32) : gK := (K.1, K.2.1, g_upd K.2.2.1 h v, K.2.2.2)
theorem tK_limpu {I : tI} {h : Nat} {v : Int32} (hl : t_lok I) (hh : h < t_h I) (h9 : t_h I ≤ 9) : tK (xm_u2 I (110 + h) 0 v) = g_limpK (tK I) h v := by
  have o : ∀ b, b ≠ 110 + h → xm_u2 I (110 + h) 0 v b = I b := fun b hb => funext fun j => xm_u2_ne hb j
  have e12 := o 12 (by omega)
  have el : t_law (xm_u2 I (110 + h) 0 v) = t_law I := t_law_eq hl (fun k hk => o _ (by omega)) (by rw [o 0 (by omega)])
  unfold tK g_limpK
  rw [t_h_eq e12, t_p_eq e12, e12, o 16 (by omega), el]
  have e1 : (fun k => if k < t_h I then xm_u2 I (110 + h) 0 v (110 + k) 0 else nI 0) = g_upd (fun k => if k < t_h I then I (110 + k) 0 else nI 0) h v := by
    funext k
    unfold g_upd
    by_cases q : k = h
    · subst q
      rw [if_pos hh, if_pos rfl, xm_u2_at, if_pos rfl]
    · rw [if_neg q]
      rw [o (110 + k) (by omega)]
  have e2 : ∀ j, j ≠ 0 → (fun k => if k < t_h I then xm_u2 I (110 + h) 0 v (110 + k) j else nI 0) = (fun k => if k < t_h I then I (110 + k) j else nI 0) := fun j hj => by
    funext k
    by_cases q : k = h
    · subst q
      rw [xm_u2_at, if_neg hj]
    · rw [o (110 + k) (by omega)]
  have e3 : ∀ k j, k < 8 → xm_u2 I (110 + h) 0 v (130 + k) j = I (130 + k) j := fun k j _ => by rw [o (130 + k) (by omega)]
  have e3' : ∀ k j, xm_u2 I (110 + h) 0 v (130 + k) j = I (130 + k) j := fun k j => by rw [o (130 + k) (by omega)]
  rw [e1, e2 1 (by decide), e2 2 (by decide)]
  simp only [e3']

/-! ===== the reference: practise ===== -/
set_option maxRecDepth 100000
theorem good_limp {I : tI} {h : Nat} {v : Int32} (hg : t_good I) (hh : h < 9) : t_good (xm_u2 I (110 + h) 0 v) := by
  have o : ∀ b, b ≠ 110 + h → xm_u2 I (110 + h) 0 v b = I b := fun b hb => funext fun j => xm_u2_ne hb j
  obtain ⟨g1, g2, g3, g4, g5, g6, g7, g8⟩ := hg
  have e0 := o 0 (by omega)
  have e12 := o 12 (by omega)
  have ea : t_a (xm_u2 I (110 + h) 0 v) = t_a I := by unfold t_a; rw [e12]
  have ha : t_a I ≤ 6 := g1.2.2.2.2.2
  have el : t_l (xm_u2 I (110 + h) 0 v) = t_l I := by unfold t_l; rw [e0]
  have em : ∀ a, a < t_a I → t_am (xm_u2 I (110 + h) 0 v) a = t_am I a := fun a q => by
    unfold t_am
    rw [ea, if_pos q, if_pos q, o (150 + a) (by omega)]
  refine ⟨t_ok_eq g1 e12, t_lok_eq g2 (fun k hk => o _ (by omega)) (by rw [e0]), by rw [e0]; exact g3, by rw [el, e0]; exact g4, ?_, ?_, fun a q => ?_, fun k q => ?_⟩
  · unfold t_im
    rw [e0]
    exact g5
  · unfold t_tp
    rw [e0]
    exact g6
  · rw [ea] at q
    rw [em a q, o (150 + a) (by omega), t_p_eq e12]
    exact g7 a q
  · rw [el] at q
    rw [t_p_eq e12, t_h_eq e12, o (600 + k) (by omega)]
    exact g8 k q
theorem t_sp_put {J M : tI} {r : Nat} {w v : Int32} (h : t_sp (xm_u2 J r 0 w) M) (r0 : r ≠ 0) (hr : ¬ t_free r) : t_sp (xm_u2 J r 0 v) (xm_u2 M r 0 v) := by
  refine ⟨fun b b0 hf => ?_, fun k k0 a c => ?_⟩
  · have := h.1 b b0 hf
    funext j
    by_cases e : b = r
    · subst e
      rw [xm_u2_at, xm_u2_at, this, xm_u2_at]
      by_cases q : j = 0
      · rw [if_pos q, if_pos q]
      · rw [if_neg q, if_neg q, if_neg q]
    · rw [xm_u2_ne e, xm_u2_ne e, this, xm_u2_ne e]
  · rw [xm_u2_ne (Ne.symm r0), xm_u2_ne (Ne.symm r0), h.2 k k0 a c, xm_u2_ne (Ne.symm r0)]
theorem xm_u2_self {J : tI} {r : Nat} : xm_u2 J r 0 (J r 0) = J := by
  funext a k
  rw [xm_u2]
  split
  · rename_i e
    rw [e.1, e.2]
  · rfl

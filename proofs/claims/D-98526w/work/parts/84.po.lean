/-! ===== families read, pure: a clause keeps it, the whole text ===== -/
set_option maxRecDepth 100000
theorem p_body_i {f : Nat → Int32} {n j k k' : Nat} {F F' : tI} (hi : t_inv F) (hk : k ≤ n) (h0 : j = 0 → f_h F < 9) (h1 : j = 1 → f_p F < 8) (h2 : j = 2 → f_a F < 6) (h : p_body f n F j k = .inr (F', k')) : t_inv F' := by
  unfold p_body at h
  split at h
  · have h0 := h0 rfl
    obtain ⟨G, k0, g, h⟩ := p_bd_r h
    have e := p_inr h
    subst e
    have e11 := p_born_11 g (by omega)
    have ef := f_eq e11
    exact (hi.o (fun i _ => e11 i) (fun b h1 h2 => p_born_o g (by omega))).m0 (by rw [ef.1]; exact h0)
  · have h1 := h1 rfl
    obtain ⟨G, k0, g, h⟩ := p_bd_r h
    have e := p_inr h
    subst e
    have e11 : ∀ i, G 11 i = F 11 i := fun i => congrFun (p_pupt_o g (by omega)) i
    have ef := f_eq e11
    exact (hi.o (fun i _ => e11 i) (fun b h1 h2 => p_pupt_o g (by omega))).m1 (by rw [ef.2.1]; exact h1)
  · have h2 := h2 rfl
    obtain ⟨G, k0, g, h⟩ := p_bd_r h
    have e := p_inr h
    subst e
    have e11 := p_act_11 g (by omega)
    have ef := f_eq e11
    obtain ⟨⟨a0, a1, a2, a3, a4, a5⟩, hA⟩ := hi
    have hn := p_act_a (P := f_p F) (by omega) hk a2 g
    refine t_inv.m2 ⟨⟨by rw [ef.1, e11]; exact a0, by omega, by rw [ef.2.1, e11]; exact a2, by omega, by rw [ef.2.2, e11]; exact a4, by omega⟩, fun a ha => ?_⟩ (by omega) (by rw [ef.2.1, ef.2.2]; exact hn)
    rw [ef.2.2] at ha
    exact (hA a ha).e (p_act_o g (by omega)) (by omega)
  · exact hi.o (fun i _ => congrFun (p_works_o h (by decide)) i) (fun b h1 h2 => p_works_o h (by omega))
  · exact hi.o (fun i _ => congrFun (p_quarrel_o h (by decide)) i) (fun b h1 h2 => p_quarrel_o h (by omega))
  · exact hi.o (fun i _ => congrFun (p_silent_o h (by decide)) i) (fun b h1 h2 => p_silent_o h (by omega))
  · exact hi.o (fun i _ => congrFun (p_owes_o h (by decide)) i) (fun b h1 h2 => p_owes_o h (by omega))
  · obtain ⟨G, k0, g, h⟩ := p_bd_r h
    have e := p_inr h
    subst e
    exact hi.o (fun i hi => by rw [xm_u2_at, if_neg (by omega)]) (fun b h1 h2 => funext fun q => xm_u2_ne (by omega) q)
theorem p_clause_i {f : Nat → Int32} {n k k' : Nat} {F F' : tI} (hi : t_inv F) (hk : k ≤ n) (h : p_clause f n F k = .inr (F', k')) : t_inv F' := by
  have hb := (p_bl_in (f := f) hk).2
  have hl := (p_le_in (f := f) hb).2
  unfold p_clause at h
  split at h
  · cases h
  · rename_i hK
    obtain ⟨j, hj, eK⟩ := (p_kind_c (p_ls f n (p_bl f n k))).resolve_left hK
    rw [eK, nI_clamp (by omega)] at h
    split at h
    · cases h
    · rename_i c
      obtain ⟨G, k0, g, h⟩ := p_bd_r h
      have e := p_sg_r h
      subst e
      have hi7 : t_inv (xm_u2 F 0 7 (F 0 7 + nI 1)) := hi.o (fun i _ => by rw [xm_u2_ne (by decide)]) (fun b h1 h2 => funext fun q => xm_u2_ne (by omega) q)
      have e7 : ∀ i, xm_u2 F 0 7 (F 0 7 + nI 1) 11 i = F 11 i := fun i => xm_u2_ne (by decide) i
      have ef := f_eq e7
      obtain ⟨⟨a0, a1, a2, a3, a4, a5⟩, hA⟩ := hi
      refine p_body_i hi7 hl (fun q => ?_) (fun q => ?_) (fun q => ?_) g
      · subst q
        rw [ef.1]
        rcases Nat.lt_or_ge (f_h F) 9 with w | w
        · exact w
        · exact absurd (p_full_0.mpr (Or.inr (a0.trans (congrArg nI (show f_h F = 9 by omega))))) c
      · subst q
        rw [ef.2.1]
        rcases Nat.lt_or_ge (f_p F) 8 with w | w
        · exact w
        · exact absurd (p_full_1.mpr (Or.inr (a2.trans (congrArg nI (show f_p F = 8 by omega))))) c
      · subst q
        rw [ef.2.2]
        rcases Nat.lt_or_ge (f_a F) 6 with w | w
        · exact w
        · exact absurd (p_full_2.mpr (Or.inr (a4.trans (congrArg nI (show f_a F = 6 by omega))))) c
/-- the clauses from k on -/
def p_famF (f : Nat → Int32) (n : Nat) : Nat → tI → Nat → pR tI
  | 0, _, _ => .inl (nI 3, 0)
  | u + 1, F, k => if k < n then p_bd (p_clause f n F k) fun F k => p_famF f n u F (p_bl f n k) else .inr (F, k)
def p_fam (f : Nat → Int32) (n : Nat) : pR tI := p_famF f n 61 f_0 (p_bl f n 0)
theorem f_0_inv : t_inv f_0 := by
  have eh : f_h f_0 = 0 := by decide +kernel
  have ep : f_p f_0 = 0 := by decide +kernel
  have ea : f_a f_0 = 0 := by decide +kernel
  refine ⟨⟨by rw [eh]; decide +kernel, by omega, by rw [ep]; decide +kernel, by omega, by rw [ea]; decide +kernel, by omega⟩, fun a ha => ?_⟩
  rw [ea] at ha
  omega

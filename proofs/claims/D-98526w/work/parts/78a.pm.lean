/-! ===== the reference: one more is told ===== -/
set_option maxRecDepth 100000
def p_more (F : tI) (j : Nat) : tI := xm_u2 F 11 j (F 11 j + nI 1)
theorem f_in_11 {F : tI} {k : Nat} (h : f_in F 11 k) : k < 4 := by
  rcases h with h | h | h | h | ⟨_, h⟩ | ⟨_, h⟩ | ⟨_, h⟩ | ⟨_, h⟩ <;> omega
theorem t_rea.m {J F : tI} {j : Nat} (h : t_rea J F) (hn : ∀ b k, b ≠ 11 → f_in (p_more F j) b k → f_in F b k ∨ J b k = F b k) : t_rea (xm_u2 J 11 j (F 11 j + nI 1)) (p_more F j) := fun b k hk => by
  unfold p_more
  by_cases hb : b = 11
  · subst hb
    rw [xm_u2_at, xm_u2_at]
    by_cases q : k = j
    · rw [if_pos q, if_pos q]
    · rw [if_neg q, if_neg q]
      exact h 11 k (Or.inr (Or.inl ⟨rfl, f_in_11 hk⟩))
  · rw [xm_u2_ne hb, xm_u2_ne hb]
    rcases hn b k hb hk with q | q
    · exact h b k q
    · exact q
theorem p_more_o {F : tI} {j b : Nat} (hb : b ≠ 11) (k : Nat) : p_more F j b k = F b k := xm_u2_ne hb k
theorem p_more_n {F : tI} {j i : Nat} (hi : i ≠ j) : p_more F j 11 i = F 11 i := by unfold p_more; rw [xm_u2_at, if_neg hi]
theorem p_more_s {F : tI} {j m : Nat} (hm : F 11 j = nI m) (hm2 : m < 2 ^ 30) : (p_more F j 11 j).toNatClampNeg = m + 1 := by
  unfold p_more
  rw [xm_u2_at, if_pos rfl, hm, nI_add, nI_clamp (by omega)]
theorem t_rea.m0 {J F : tI} (h : t_rea J F) (hF : F 11 0 = nI (f_h F)) (h9 : f_h F < 9) (hr : ∀ i, i < 3 → J (100 + f_h F) i = F (100 + f_h F) i) : t_rea (xm_u2 J 11 0 (F 11 0 + nI 1)) (p_more F 0) := h.m fun b k hb hk => by
  have eh : f_h (p_more F 0) = f_h F + 1 := p_more_s hF (by omega)
  have ep : f_p (p_more F 0) = f_p F := by unfold f_p; rw [p_more_n (by decide)]
  have ea : f_a (p_more F 0) = f_a F := by unfold f_a; rw [p_more_n (by decide)]
  unfold f_in at hk ⊢
  rw [eh, ep, ea] at hk
  rcases hk with hk | hk | hk | hk | ⟨h', h1, h2, h3⟩ | hk | ⟨a, h1, h2, h3⟩ | hk
  · exact Or.inl (Or.inl hk)
  · exact absurd hk.1 hb
  · exact Or.inl (Or.inr (Or.inr (Or.inl hk)))
  · exact Or.inl (Or.inr (Or.inr (Or.inr (Or.inl hk))))
  · rcases Nat.lt_or_ge h' (f_h F) with q | q
    · exact Or.inl (Or.inr (Or.inr (Or.inr (Or.inr (Or.inl ⟨h', h1, q, h3⟩)))))
    · have : h' = f_h F := by omega
      subst this
      right
      rw [h1]
      exact hr k h3
  · exact Or.inl (Or.inr (Or.inr (Or.inr (Or.inr (Or.inr (Or.inl hk))))))
  · refine Or.inl (Or.inr (Or.inr (Or.inr (Or.inr (Or.inr (Or.inr (Or.inl ⟨a, h1, h2, ?_⟩)))))))
    rw [show f_m (p_more F 0) a = f_m F a by unfold f_m; rw [p_more_o (by omega)]] at h3
    exact h3
  · exact Or.inl (Or.inr (Or.inr (Or.inr (Or.inr (Or.inr (Or.inr (Or.inr hk)))))))
theorem t_rea.m1 {J F : tI} (h : t_rea J F) (hF : F 11 1 = nI (f_p F)) (h9 : f_p F < 8) (hr : ∀ i, i < 3 → J (120 + f_p F) i = F (120 + f_p F) i) : t_rea (xm_u2 J 11 1 (F 11 1 + nI 1)) (p_more F 1) := h.m fun b k hb hk => by
  have eh : f_p (p_more F 1) = f_p F + 1 := p_more_s hF (by omega)
  have ep : f_h (p_more F 1) = f_h F := by unfold f_h; rw [p_more_n (by decide)]
  have ea : f_a (p_more F 1) = f_a F := by unfold f_a; rw [p_more_n (by decide)]
  unfold f_in at hk ⊢
  rw [eh, ep, ea] at hk
  rcases hk with hk | hk | hk | hk | hk | ⟨h', h1, h2, h3⟩ | ⟨a, h1, h2, h3⟩ | hk
  · exact Or.inl (Or.inl hk)
  · exact absurd hk.1 hb
  · exact Or.inl (Or.inr (Or.inr (Or.inl hk)))
  · exact Or.inl (Or.inr (Or.inr (Or.inr (Or.inl hk))))
  · exact Or.inl (Or.inr (Or.inr (Or.inr (Or.inr (Or.inl hk)))))
  · rcases Nat.lt_or_ge h' (f_p F) with q | q
    · exact Or.inl (Or.inr (Or.inr (Or.inr (Or.inr (Or.inr (Or.inl ⟨h', h1, q, h3⟩))))))
    · have : h' = f_p F := by omega
      subst this
      right
      rw [h1]
      exact hr k h3
  · refine Or.inl (Or.inr (Or.inr (Or.inr (Or.inr (Or.inr (Or.inr (Or.inl ⟨a, h1, h2, ?_⟩)))))))
    rw [show f_m (p_more F 1) a = f_m F a by unfold f_m; rw [p_more_o (by omega)]] at h3
    exact h3
  · exact Or.inl (Or.inr (Or.inr (Or.inr (Or.inr (Or.inr (Or.inr (Or.inr hk)))))))
theorem t_rea.m2 {J F : tI} {m : Nat} (h : t_rea J F) (hF : F 11 2 = nI (f_a F)) (h9 : f_a F < 6) (hm : m ≤ 6) (e1 : F (140 + f_a F) 1 = nI m) (hr : ∀ i, i < 2 + m → J (140 + f_a F) i = F (140 + f_a F) i) : t_rea (xm_u2 J 11 2 (F 11 2 + nI 1)) (p_more F 2) := h.m fun b k hb hk => by
  have ea : f_a (p_more F 2) = f_a F + 1 := p_more_s hF (by omega)
  have eh : f_h (p_more F 2) = f_h F := by unfold f_h; rw [p_more_n (by decide)]
  have ep : f_p (p_more F 2) = f_p F := by unfold f_p; rw [p_more_n (by decide)]
  unfold f_in at hk ⊢
  rw [eh, ep, ea] at hk
  rcases hk with hk | hk | hk | hk | hk | hk | ⟨a, h1, h2, h3⟩ | hk
  · exact Or.inl (Or.inl hk)
  · exact absurd hk.1 hb
  · exact Or.inl (Or.inr (Or.inr (Or.inl hk)))
  · exact Or.inl (Or.inr (Or.inr (Or.inr (Or.inl hk))))
  · exact Or.inl (Or.inr (Or.inr (Or.inr (Or.inr (Or.inl hk)))))
  · exact Or.inl (Or.inr (Or.inr (Or.inr (Or.inr (Or.inr (Or.inl hk))))))
  · rw [show f_m (p_more F 2) a = f_m F a by unfold f_m; rw [p_more_o (by omega)]] at h3
    rcases Nat.lt_or_ge a (f_a F) with q | q
    · exact Or.inl (Or.inr (Or.inr (Or.inr (Or.inr (Or.inr (Or.inr (Or.inl ⟨a, h1, q, h3⟩)))))))
    · have : a = f_a F := by omega
      subst this
      right
      rw [h1]
      refine hr k ?_
      unfold f_m at h3
      rw [e1, nI_clamp (by omega)] at h3
      exact h3
  · exact Or.inl (Or.inr (Or.inr (Or.inr (Or.inr (Or.inr (Or.inr (Or.inr hk)))))))
/-! what a row's telling leaves -/
theorem p_bd_r {α β : Type} {r : pR α} {g : α → Nat → pR β} {v : β} {k : Nat} (h : p_bd r g = .inr (v, k)) : ∃ a k', r = .inr (a, k') ∧ g a k' = .inr (v, k) := by
  match r, h with
  | .inr (a, k'), h => exact ⟨a, k', rfl, h⟩
theorem p_born_11 {f : Nat → Int32} {n r k k' : Nat} {F F' : tI} (h : p_born f n F r k = .inr (F', k')) (hr : r ≠ 11) (j : Nat) : F' 11 j = F 11 j := by
  unfold p_born at h
  obtain ⟨v0, k0, -, h⟩ := p_bd_r h
  obtain ⟨v1, k1, -, h⟩ := p_bd_r h
  obtain ⟨v2, k2, -, h⟩ := p_bd_r h
  split at h
  · cases h
  · have := congrArg Prod.fst (Sum.inr.inj h)
    subst this
    show xm_u2 (xm_u2 (xm_u2 F r 0 v0) r 1 v1) r 2 v2 11 j = F 11 j
    rw [xm_u2_ne hr.symm, xm_u2_ne hr.symm, xm_u2_ne hr.symm]
theorem p_actF_11 {f : Nat → Int32} {n r k' : Nat} {F' : tI} (hr : r ≠ 11) (j : Nat) : ∀ {u k m : Nat} {bits : Int32} {F : tI}, p_actF f n r u F m bits k = .inr (F', k') → F' 11 j = F 11 j
  | 0, k, m, bits, F, h => by cases h
  | u + 1, k, m, bits, F, h => by
    unfold p_actF at h
    split at h
    · have := congrArg Prod.fst (Sum.inr.inj h)
      subst this
      rfl
    · obtain ⟨v0, k0, -, h⟩ := p_bd_r h
      split at h
      · cases h
      · split at h
        · cases h
        · rw [p_actF_11 hr j h, xm_u2_ne hr.symm, xm_u2_ne hr.symm]
theorem p_act_11 {f : Nat → Int32} {n r k k' : Nat} {F F' : tI} (h : p_act f n F r k = .inr (F', k')) (hr : r ≠ 11) (j : Nat) : F' 11 j = F 11 j := by
  unfold p_act at h
  obtain ⟨v0, k0, -, h⟩ := p_bd_r h
  rw [p_actF_11 hr j h, xm_u2_ne hr.symm, xm_u2_ne hr.symm]
theorem f_eq {F F' : tI} (h : ∀ j, F' 11 j = F 11 j) : f_h F' = f_h F ∧ f_p F' = f_p F ∧ f_a F' = f_a F := by
  unfold f_h f_p f_a
  rw [h, h, h]
  exact ⟨rfl, rfl, rfl⟩
theorem p_actF_m {f : Nat → Int32} {n r k' : Nat} {F' : tI} : ∀ {u k m : Nat} {bits : Int32} {F : tI}, m + u = 7 → F r 1 = nI m → p_actF f n r u F m bits k = .inr (F', k') → ∃ m', m' ≤ 6 ∧ F' r 1 = nI m'
  | 0, k, m, bits, F, _, _, h => by cases h
  | u + 1, k, m, bits, F, hu, hF, h => by
    unfold p_actF at h
    split at h
    · have := congrArg Prod.fst (Sum.inr.inj h)
      subst this
      exact ⟨m, by omega, hF⟩
    · obtain ⟨v0, k0, -, h⟩ := p_bd_r h
      split at h
      · cases h
      · split at h
        · cases h
        · exact p_actF_m (by omega) (by rw [xm_u2_at, if_pos rfl]) h

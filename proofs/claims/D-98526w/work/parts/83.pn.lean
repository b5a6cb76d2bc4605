/-! ===== families read, pure: what stays ===== -/
set_option maxRecDepth 100000
theorem p_inr {α : Type} {v w : α} {k k' : Nat} (h : (Sum.inr (v, k) : pR α) = .inr (w, k')) : v = w := congrArg Prod.fst (Sum.inr.inj h)
theorem p_born_o {f : Nat → Int32} {n r k k' : Nat} {F F' : tI} (h : p_born f n F r k = .inr (F', k')) {b : Nat} (hb : b ≠ r) : F' b = F b := by
  unfold p_born at h
  obtain ⟨v0, k0, -, h⟩ := p_bd_r h
  obtain ⟨v1, k1, -, h⟩ := p_bd_r h
  obtain ⟨v2, k2, -, h⟩ := p_bd_r h
  split at h
  · cases h
  · have e := p_inr h
    subst e
    exact funext fun j => by rw [xm_u2_ne hb, xm_u2_ne hb, xm_u2_ne hb]
theorem p_pupt_o {f : Nat → Int32} {n r k k' : Nat} {F F' : tI} (h : p_pupt f n F r k = .inr (F', k')) {b : Nat} (hb : b ≠ r) : F' b = F b := by
  unfold p_pupt at h
  obtain ⟨v0, k0, -, h⟩ := p_bd_r h
  obtain ⟨v1, k1, -, h⟩ := p_bd_r h
  obtain ⟨v2, k2, -, h⟩ := p_bd_r h
  have e := p_inr h
  subst e
  exact funext fun j => by rw [xm_u2_ne hb, xm_u2_ne hb, xm_u2_ne hb]
theorem p_actF_o {f : Nat → Int32} {n r k' : Nat} {F' : tI} {b : Nat} (hb : b ≠ r) : ∀ {u k m : Nat} {bits : Int32} {F : tI}, p_actF f n r u F m bits k = .inr (F', k') → F' b = F b
  | 0, k, m, bits, F, h => by cases h
  | u + 1, k, m, bits, F, h => by
    unfold p_actF at h
    split at h
    · have e := p_inr h
      subst e
      rfl
    · obtain ⟨v0, k0, -, h⟩ := p_bd_r h
      split at h
      · cases h
      · split at h
        · cases h
        · rw [p_actF_o hb h]
          exact funext fun j => by rw [xm_u2_ne hb, xm_u2_ne hb]
theorem p_act_o {f : Nat → Int32} {n r k k' : Nat} {F F' : tI} (h : p_act f n F r k = .inr (F', k')) {b : Nat} (hb : b ≠ r) : F' b = F b := by
  unfold p_act at h
  obtain ⟨v0, k0, -, h⟩ := p_bd_r h
  rw [p_actF_o hb h]
  exact funext fun j => by rw [xm_u2_ne hb, xm_u2_ne hb]
theorem p_works_o {f : Nat → Int32} {n k k' : Nat} {F F' : tI} (h : p_works f n F k = .inr (F', k')) {b : Nat} (hb : b ≠ 13) : F' b = F b := by
  unfold p_works at h
  obtain ⟨v0, k0, -, h⟩ := p_bd_r h
  obtain ⟨v1, k1, -, h⟩ := p_bd_r h
  split at h
  · cases h
  · have e := p_inr h
    subst e
    exact funext fun j => xm_u2_ne hb j
theorem p_quarrel_o {f : Nat → Int32} {n k k' : Nat} {F F' : tI} (h : p_quarrel f n F k = .inr (F', k')) {b : Nat} (hb : b ≠ 15) : F' b = F b := by
  unfold p_quarrel at h
  obtain ⟨v0, k0, -, h⟩ := p_bd_r h
  obtain ⟨v1, k1, -, h⟩ := p_bd_r h
  split at h
  · cases h
  · have e := p_inr h
    subst e
    exact funext fun j => xm_u2_ne hb j
theorem p_silent_o {f : Nat → Int32} {n k k' : Nat} {F F' : tI} (h : p_silent f n F k = .inr (F', k')) {b : Nat} (hb : b ≠ 17) : F' b = F b := by
  unfold p_silent at h
  obtain ⟨v0, k0, -, h⟩ := p_bd_r h
  obtain ⟨v1, k1, -, h⟩ := p_bd_r h
  have e := p_inr h
  subst e
  exact funext fun j => by rw [xm_u2_ne hb, xm_u2_ne hb]
theorem p_owes_o {f : Nat → Int32} {n k k' : Nat} {F F' : tI} (h : p_owes f n F k = .inr (F', k')) {b : Nat} (hb : b < 160) : F' b = F b := by
  unfold p_owes at h
  obtain ⟨v0, k0, -, h⟩ := p_bd_r h
  obtain ⟨v1, k1, -, h⟩ := p_bd_r h
  obtain ⟨v2, k2, -, h⟩ := p_bd_r h
  have e := p_inr h
  subst e
  exact funext fun j => xm_u2_ne (by omega) j
theorem p_body_0 {f : Nat → Int32} {n j k k' : Nat} {F F' : tI} (h : p_body f n F j k = .inr (F', k')) : F' 0 = F 0 := by
  have m : ∀ (G : tI) i, p_more G i 0 = G 0 := fun G i => funext fun q => p_more_o (by decide) q
  unfold p_body at h
  split at h
  · obtain ⟨G, k0, h1, h⟩ := p_bd_r h
    have e := p_inr h
    subst e
    rw [m, p_born_o h1 (by omega)]
  · obtain ⟨G, k0, h1, h⟩ := p_bd_r h
    have e := p_inr h
    subst e
    rw [m, p_pupt_o h1 (by omega)]
  · obtain ⟨G, k0, h1, h⟩ := p_bd_r h
    have e := p_inr h
    subst e
    rw [m, p_act_o h1 (by omega)]
  · exact p_works_o h (by decide)
  · exact p_quarrel_o h (by decide)
  · exact p_silent_o h (by decide)
  · exact p_owes_o h (by decide)
  · obtain ⟨G, k0, h1, h⟩ := p_bd_r h
    have e := p_inr h
    subst e
    exact funext fun q => xm_u2_ne (by decide) q
theorem p_sg_r {f : Nat → Int32} {n k k' : Nat} {F F' : tI} (h : p_sg f n F k = .inr (F', k')) : F' = F := by
  unfold p_sg at h
  split at h
  · cases h
  · exact (p_inr h).symm
theorem p_clause_7 {f : Nat → Int32} {n k k' : Nat} {F F' : tI} (h : p_clause f n F k = .inr (F', k')) : F' 0 7 = F 0 7 + nI 1 ∧ ¬ F 0 7 = nI 60 := by
  unfold p_clause at h
  split at h
  · cases h
  · split at h
    · cases h
    · rename_i c
      obtain ⟨G, k0, h1, h⟩ := p_bd_r h
      have e := p_sg_r h
      subst e
      refine ⟨by rw [p_body_0 h1, xm_u2_at, if_pos rfl], fun q => c ?_⟩
      unfold p_full
      rw [q]
      simp
/-! what was read hangs together -/
def t_aok1 (F : tI) (P a : Nat) : Prop := ∃ m, m ≤ 6 ∧ F (140 + a) 1 = nI m ∧ ∀ i, i < m → ∃ p, p < P ∧ F (140 + a) (2 + i) = nI p
def t_inv (F : tI) : Prop := t_fok F ∧ ∀ a, a < f_a F → t_aok1 F (f_p F) a
theorem t_aok1.e {F F' : tI} {P P' a : Nat} (h : t_aok1 F P a) (hb : F' (140 + a) = F (140 + a)) (hP : P ≤ P') : t_aok1 F' P' a := by
  obtain ⟨m, h1, h2, h3⟩ := h
  refine ⟨m, h1, by rw [hb]; exact h2, fun i hi => ?_⟩
  obtain ⟨p, hp, e⟩ := h3 i hi
  exact ⟨p, by omega, by rw [hb]; exact e⟩
theorem t_inv.o {F F' : tI} (h : t_inv F) (h11 : ∀ i, i < 3 → F' 11 i = F 11 i) (hb : ∀ b, 140 ≤ b → b < 146 → F' b = F b) : t_inv F' := by
  have eh : f_h F' = f_h F := by unfold f_h; rw [h11 0 (by decide)]
  have ep : f_p F' = f_p F := by unfold f_p; rw [h11 1 (by decide)]
  have ea : f_a F' = f_a F := by unfold f_a; rw [h11 2 (by decide)]
  obtain ⟨⟨a0, a1, a2, a3, a4, a5⟩, h2⟩ := h
  refine ⟨⟨by rw [eh, h11 0 (by decide)]; exact a0, by rw [eh]; exact a1, by rw [ep, h11 1 (by decide)]; exact a2, by rw [ep]; exact a3, by rw [ea, h11 2 (by decide)]; exact a4, by rw [ea]; exact a5⟩, fun a ha => ?_⟩
  rw [ea] at ha
  exact (h2 a ha).e (hb _ (by omega) (by omega)) (Nat.le_of_eq ep.symm)
theorem p_more_e {F : tI} {j m : Nat} (hm : F 11 j = nI m) : p_more F j 11 j = nI (m + 1) := by
  unfold p_more
  rw [xm_u2_at, if_pos rfl, hm, nI_add]
theorem t_inv.m0 {F : tI} (h : t_inv F) (h9 : f_h F < 9) : t_inv (p_more F 0) := by
  obtain ⟨⟨a0, a1, a2, a3, a4, a5⟩, h2⟩ := h
  have eh : f_h (p_more F 0) = f_h F + 1 := p_more_s a0 (by omega)
  have ep : f_p (p_more F 0) = f_p F := by unfold f_p; rw [p_more_n (by decide)]
  have ea : f_a (p_more F 0) = f_a F := by unfold f_a; rw [p_more_n (by decide)]
  refine ⟨⟨by rw [eh]; exact p_more_e a0, by omega, by rw [ep, p_more_n (by decide)]; exact a2, by omega, by rw [ea, p_more_n (by decide)]; exact a4, by omega⟩, fun a ha => ?_⟩
  rw [ea] at ha
  exact (h2 a ha).e (funext fun k => p_more_o (by omega) k) (Nat.le_of_eq ep.symm)
theorem t_inv.m1 {F : tI} (h : t_inv F) (h9 : f_p F < 8) : t_inv (p_more F 1) := by
  obtain ⟨⟨a0, a1, a2, a3, a4, a5⟩, h2⟩ := h
  have ep : f_p (p_more F 1) = f_p F + 1 := p_more_s a2 (by omega)
  have eh : f_h (p_more F 1) = f_h F := by unfold f_h; rw [p_more_n (by decide)]
  have ea : f_a (p_more F 1) = f_a F := by unfold f_a; rw [p_more_n (by decide)]
  refine ⟨⟨by rw [eh, p_more_n (by decide)]; exact a0, by omega, by rw [ep]; exact p_more_e a2, by omega, by rw [ea, p_more_n (by decide)]; exact a4, by omega⟩, fun a ha => ?_⟩
  rw [ea] at ha
  exact (h2 a ha).e (funext fun k => p_more_o (by omega) k) (by omega)
theorem t_inv.m2 {F : tI} (h : t_inv F) (h9 : f_a F < 6) (ha1 : t_aok1 F (f_p F) (f_a F)) : t_inv (p_more F 2) := by
  obtain ⟨⟨a0, a1, a2, a3, a4, a5⟩, h2⟩ := h
  have ea : f_a (p_more F 2) = f_a F + 1 := p_more_s a4 (by omega)
  have eh : f_h (p_more F 2) = f_h F := by unfold f_h; rw [p_more_n (by decide)]
  have ep : f_p (p_more F 2) = f_p F := by unfold f_p; rw [p_more_n (by decide)]
  refine ⟨⟨by rw [eh, p_more_n (by decide)]; exact a0, by omega, by rw [ep, p_more_n (by decide)]; exact a2, by omega, by rw [ea]; exact p_more_e a4, by omega⟩, fun a ha => ?_⟩
  rw [ea] at ha
  rcases Nat.lt_or_ge a (f_a F) with q | q
  · exact (h2 a q).e (funext fun k => p_more_o (by omega) k) (Nat.le_of_eq ep.symm)
  · have : a = f_a F := by omega
    subst this
    exact ha1.e (funext fun k => p_more_o (by omega) k) (Nat.le_of_eq ep.symm)
theorem p_actF_a {f : Nat → Int32} {n a k' P : Nat} {F' : tI} (hP : P < 2 ^ 31) : ∀ {u k m : Nat} {bits : Int32} {F : tI}, m + u = 7 → k ≤ n → F 11 1 = nI P → F (140 + a) 1 = nI m → (∀ i, i < m → ∃ p, p < P ∧ F (140 + a) (2 + i) = nI p) → p_actF f n (140 + a) u F m bits k = .inr (F', k') → t_aok1 F' P a
  | 0, k, m, bits, F, _, _, _, _, _, h => by cases h
  | u + 1, k, m, bits, F, hu, hk, h11, h1, hi, h => by
    unfold p_actF at h
    split at h
    · have e := p_inr h
      subst e
      exact ⟨m, by omega, h1, hi⟩
    · obtain ⟨v0, k0, hv, h⟩ := p_bd_r h
      rw [h11] at hv
      obtain ⟨p, rfl, hp⟩ := p_number_n hP hk hv
      split at h
      · cases h
      · split at h
        · cases h
        · refine p_actF_a hP (by omega) (p_number_in hk hv).2 ?_ ?_ (fun i hi2 => ?_) h
          · rw [xm_u2_ne (by omega), xm_u2_ne (by omega)]
            exact h11
          · rw [xm_u2_at, if_pos rfl]
          · rw [xm_u2_at, if_neg (by omega), xm_u2_at]
            by_cases q : 2 + i = 2 + m
            · exact ⟨p, hp, if_pos q⟩
            · rw [if_neg q]
              exact hi i (by omega)
theorem p_act_a {f : Nat → Int32} {n a k k' P : Nat} {F F' : tI} (hP : P < 2 ^ 31) (hk : k ≤ n) (h11 : F 11 1 = nI P) (h : p_act f n F (140 + a) k = .inr (F', k')) : t_aok1 F' P a := by
  unfold p_act at h
  obtain ⟨v0, k0, hv, h⟩ := p_bd_r h
  refine p_actF_a hP (by omega) (p_number_in hk hv).2 ?_ ?_ (fun i hi => by omega) h
  · rw [xm_u2_ne (by omega), xm_u2_ne (by omega)]
    exact h11
  · rw [xm_u2_at, if_pos rfl]

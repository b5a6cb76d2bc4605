/-! ===== the reference: a statute's units ===== -/
set_option maxRecDepth 100000
/-- only the reading and the codes read -/
def t_lf (I J : tI) : Prop := (∀ b, b ≠ 0 → ¬ (400 ≤ b ∧ b < 560) → J b = I b) ∧ ∀ k, k ≠ 4 → k ≠ 5 → k ≠ 6 → k ≠ 8 → k ≠ 28 → J 0 k = I 0 k
theorem t_lf.rf {I : tI} : t_lf I I := ⟨fun _ _ _ => rfl, fun _ _ _ _ _ _ => rfl⟩
theorem t_lf.tr {I J L : tI} (h : t_lf I J) (h2 : t_lf J L) : t_lf I L := ⟨fun b a c => (h2.1 b a c).trans (h.1 b a c), fun k a b c d e => (h2.2 k a b c d e).trans (h.2 k a b c d e)⟩
theorem t_pf.l {I J : tI} (h : t_pf I J) : t_lf I J := ⟨fun b a _ => h.1 b a, fun k a b c _ _ => h.2 k a b c⟩
theorem t_lf.u0 {I : tI} {k : Nat} {v : Int32} (h : k = 4 ∨ k = 5 ∨ k = 6 ∨ k = 8 ∨ k = 28) : t_lf I (xm_u2 I 0 k v) := ⟨fun b hb _ => funext fun j => xm_u2_ne hb j, fun j _ _ _ _ _ => by rw [xm_u2_at, if_neg (by omega)]⟩
theorem t_lf.u {I : tI} {b k : Nat} {v : Int32} (h : 400 ≤ b ∧ b < 560) : t_lf I (xm_u2 I b k v) := ⟨fun b' _ h2 => funext fun j => xm_u2_ne (fun e => h2 (by omega)) j, fun j _ _ _ _ _ => xm_u2_ne (by omega) j⟩
theorem t_lf.tx {I J : tI} {f : Nat → Int32} {n : Nat} (h : t_lf I J) (ht : t_tx I f n) : t_tx J f n := ⟨(h.2 2 (by decide) (by decide) (by decide) (by decide) (by decide)).trans ht.1, ht.2.1, fun k hk => by rw [h.1 9 (by decide) (by omega)]; exact ht.2.2 k hk⟩
/-- the codes r behind c others that I has -/
def t_lp (I J : tI) (n d c : Nat) (r : pR (List lC)) : Prop := match r with
  | .inl e => t_ps J n (.inl e)
  | .inr (L, k) => t_ps J n (.inr k) ∧ J 0 8 = nI (6 - d) ∧ J 0 28 = nI (c + L.length) ∧ c + L.length ≤ k ∧ (∀ j, j < c → J (400 + j) = I (400 + j)) ∧ t_cds J (400 + c) L
theorem t_lp.ps {I J : tI} {n d c : Nat} {r : pR (List lC)} (h : t_lp I J n d c r) : t_ps J n (p_st r) := by
  match r, h with
  | .inl e, h => exact h
  | .inr (L, k), h => exact h.1
def l_n (r : pR (List lC)) : Nat := match r with
  | .inl _ => 0
  | .inr (L, _) => L.length
def t_lin (I : tI) (f : Nat → Int32) (n d c : Nat) (p : pP) : Prop := t_tx I f n ∧ n ≤ 150 ∧ d ≤ 6 ∧ t_ps I n p ∧ ∀ k, p = .inr k → I 0 8 = nI (6 - d) ∧ I 0 28 = nI c ∧ c ≤ k
theorem t_lp.lin {I J : tI} {f : Nat → Int32} {n d c : Nat} {r : pR (List lC)} (h : t_lp I J n d c r) (ht : t_tx J f n) (hn : n ≤ 150) (hd : d ≤ 6) : t_lin J f n d (c + l_n r) (p_st r) := by
  refine ⟨ht, hn, hd, h.ps, fun k hk => ?_⟩
  match r, h, hk with
  | .inr (L, k'), h, hk =>
    cases Sum.inr.inj hk
    exact ⟨h.2.1, h.2.2.1, h.2.2.2.1⟩
/-- a sign read -/
def p_rs (f : Nat → Int32) (n : Nat) (ch : Int32) (r : pR (List lC)) : pR (List lC) := p_bd r fun L k => p_go (p_sign f n ch k) fun k => .inr (L, k)
/-- more codes read -/
def p_ra (g : Nat → pR (List lC)) (r : pR (List lC)) : pR (List lC) := p_bd r fun L k => p_bd (g k) fun B k => .inr (L ++ B, k)
theorem t_cds_pf {J J' : tI} {b : Nat} {L : List lC} (h : t_cds J b L) (hb : b ≠ 0) (hJ : ∀ b', b' ≠ 0 → J' b' = J b') : t_cds J' b L := fun j x hx => by
  rw [hJ (b + j) (by omega)]
  exact h j x hx
theorem t_lp.sgn {I J J' : tI} {f : Nat → Int32} {n d c : Nat} {ch : Int32} {r : pR (List lC)} (h : t_lp I J n d c r) (hJ : t_pf J J') (hc : ¬ ch = nM) (hp : t_ps J' n (p_then (p_st r) (p_sign f n ch))) : t_lp I J' n d c (p_rs f n ch r) := by
  match r, h, hp with
  | .inl e, h, hp => exact hp
  | .inr (L, k), ⟨a1, a2, a3, a4, a5, a6⟩, hp =>
    have hp : t_ps J' n (p_sign f n ch k) := hp
    show t_lp I J' n d c (p_go (p_sign f n ch k) fun k => .inr (L, k))
    cases hs : p_sign f n ch k with
    | inl e =>
      rw [hs] at hp
      exact hp
    | inr k' =>
      rw [hs] at hp
      have := p_sign_in hc (t_ps_n a1).2.2 hs
      exact ⟨hp, (hJ.2 8 (by decide) (by decide) (by decide)).trans a2, (hJ.2 28 (by decide) (by decide) (by decide)).trans a3, by omega, fun j hj => (hJ.1 _ (by omega)).trans (a5 j hj), t_cds_pf a6 (by omega) hJ.1⟩
theorem t_cds_app {J : tI} {b : Nat} {A B : List lC} (hA : t_cds J b A) (hB : t_cds J (b + A.length) B) : t_cds J b (A ++ B) := fun j x hx => by
  rcases Nat.lt_or_ge j A.length with q | q
  · rw [List.getElem?_append_left q] at hx
    exact hA j x hx
  · rw [List.getElem?_append_right q] at hx
    have := hB _ x hx
    rwa [show b + A.length + (j - A.length) = b + j by omega] at this
theorem t_cds_kept {J J' : tI} {b : Nat} {A : List lC} (hA : t_cds J b A) (h : ∀ j, j < A.length → J' (b + j) = J (b + j)) : t_cds J' b A := fun j x hx => by
  have := (List.getElem?_eq_some_iff.mp hx).1
  rw [h j this]
  exact hA j x hx
theorem t_lp.more {I J J' : tI} {n d c : Nat} {g : Nat → pR (List lC)} {r : pR (List lC)} (h : t_lp I J n d c r) (hp : t_lp J J' n d (c + l_n r) (p_go (p_st r) g)) : t_lp I J' n d c (p_ra g r) := by
  match r, h, hp with
  | .inl e, h, hp => exact hp
  | .inr (L, k), ⟨a1, a2, a3, a4, a5, a6⟩, hp =>
    have hp : t_lp J J' n d (c + L.length) (g k) := hp
    show t_lp I J' n d c (p_bd (g k) fun B k => .inr (L ++ B, k))
    cases hs : g k with
    | inl e =>
      rw [hs] at hp
      exact hp
    | inr e =>
      obtain ⟨B, k'⟩ := e
      rw [hs] at hp
      obtain ⟨b1, b2, b3, b4, b5, b6⟩ := hp
      refine ⟨b1, b2, ?_, ?_, fun j hj => (b5 j (by omega)).trans (a5 j hj), t_cds_app (t_cds_kept a6 fun j hj => ?_) ?_⟩
      · rw [b3, List.length_append, Nat.add_assoc]
      · rw [List.length_append]
        omega
      · rw [Nat.add_assoc]
        exact b5 (c + j) (by omega)
      · rw [Nat.add_assoc]
        exact b6
/-- a code noted -/
def p_rn (z v : Int32) (r : pR (List lC)) : pR (List lC) := p_bd r fun L k => .inr (L ++ [(z, v)], k)
theorem t_lp.note {I J : tI} {n d c k : Nat} {L : List lC} {z v : Int32} (h : t_lp I J n d c (.inr (L, k))) (hk : c + L.length < k) : t_lp I (xm_u2 (xm_u2 (xm_u2 J (400 + (c + L.length)) 0 z) (400 + (c + L.length)) 1 v) 0 28 (nI (c + L.length + 1))) n d c (.inr (L ++ [(z, v)], k)) := by
  obtain ⟨a1, a2, a3, a4, a5, a6⟩ := h
  have o : ∀ b, b ≠ 0 → b ≠ 400 + (c + L.length) → xm_u2 (xm_u2 (xm_u2 J (400 + (c + L.length)) 0 z) (400 + (c + L.length)) 1 v) 0 28 (nI (c + L.length + 1)) b = J b := fun b h1 h2 => funext fun j => by rw [xm_u2_ne h1, xm_u2_ne h2, xm_u2_ne h2]
  have o0 : ∀ k, k ≠ 28 → xm_u2 (xm_u2 (xm_u2 J (400 + (c + L.length)) 0 z) (400 + (c + L.length)) 1 v) 0 28 (nI (c + L.length + 1)) 0 k = J 0 k := fun k hk => by rw [xm_u2_at, if_neg hk, xm_u2_ne (by omega), xm_u2_ne (by omega)]
  refine ⟨⟨(o0 5 (by decide)).trans a1.1, (o0 4 (by decide)).trans a1.2.1, a1.2.2⟩, (o0 8 (by decide)).trans a2, ?_, ?_, fun j hj => (o _ (by omega) (by omega)).trans (a5 j hj), t_cds_app (t_cds_kept a6 fun j hj => o _ (by omega) (by omega)) ?_⟩
  · rw [xm_u2_at, if_pos rfl, List.length_append]
    rfl
  · rw [List.length_append]
    exact hk
  · intro j x hx
    match j, hx with
    | 0, hx =>
      cases Option.some.inj hx
      rw [show 400 + c + L.length + 0 = 400 + (c + L.length) by omega, xm_u2_ne (by omega), xm_u2_at, if_neg (by decide), xm_u2_at, if_pos rfl, xm_u2_ne (by omega), xm_u2_at, if_pos rfl]
      exact ⟨rfl, rfl⟩
theorem t_lp.op {I J : tI} {n d c : Nat} {r : pR (List lC)} {v : Int32} {e : Nat} (h : t_lp I J n d c r) (hv : ∀ L k, r = .inr (L, k) → v = nI (6 - e)) : t_lp I (xm_u2 J 0 8 v) n e c r := by
  have o : ∀ b, b ≠ 0 → xm_u2 J 0 8 v b = J b := fun b h1 => funext fun j => by rw [xm_u2_ne h1]
  have o0 : ∀ k, k ≠ 8 → xm_u2 J 0 8 v 0 k = J 0 k := fun k hk => by rw [xm_u2_at, if_neg hk]
  match r, h, hv with
  | .inl (a, q), ⟨a1, a2, a3, a4⟩, _ => exact ⟨(o0 5 (by decide)).trans a1, a2, (o0 6 (by decide)).trans a3, by rw [o0 4 (by decide)]; exact a4⟩
  | .inr (L, k), ⟨a1, a2, a3, a4, a5, a6⟩, hv =>
    exact ⟨⟨(o0 5 (by decide)).trans a1.1, (o0 4 (by decide)).trans a1.2.1, a1.2.2⟩, by rw [xm_u2_at, if_pos rfl, hv L k rfl], (o0 28 (by decide)).trans a3, a4, fun j hj => (o _ (by omega)).trans (a5 j hj), t_cds_pf a6 (by omega) o⟩
theorem t_lp.n0 {I J : tI} {n d c : Nat} {r : pR (List lC)} (h : t_lp I J n d c r) : (∃ e, r = .inl e ∧ ¬ J 0 5 = nI 0) ∨ ∃ L k, r = .inr (L, k) ∧ J 0 5 = nI 0 ∧ J 0 28 = nI (c + L.length) ∧ c + L.length ≤ k ∧ k ≤ n := by
  match r, h with
  | .inl (a, q), ⟨a1, a2, a3, a4⟩ => exact Or.inl ⟨_, rfl, by rw [a1]; exact a2⟩
  | .inr (L, k), ⟨a1, a2, a3, a4, a5, a6⟩ => exact Or.inr ⟨L, k, rfl, a1.1, a3, a4, a1.2.2⟩
theorem p_two_r {f : Nat → Int32} {n d b : Nat} {z : Int32} : p_two f n (p_sm f n (d + 1)) z b = p_rn z (nI 0) (p_rs f n (nI 93) (p_ra (p_sum f n d) (p_rs f n (nI 44) (p_ra (p_sum f n d) (p_rs f n (nI 91) (.inr ([], p_le f n b))))))) := by
  show (p_go (p_sign f n (nI 91) (p_le f n b)) fun k => p_bd (p_sum f n d k) fun A k => p_go (p_sign f n (nI 44) k) fun k => p_bd (p_sum f n d k) fun B k => p_go (p_sign f n (nI 93) k) fun k => .inr (A ++ B ++ [(z, nI 0)], k)) = _
  unfold p_rn p_rs p_ra
  show _ = p_bd (p_bd (p_bd (p_bd (p_bd (p_go (p_sign f n (nI 91) (p_le f n b)) fun k => .inr ([], k)) _) _) _) _) _
  cases p_sign f n (nI 91) (p_le f n b) with
  | inl e => rfl
  | inr k =>
    show (p_bd (p_sum f n d k) fun A k => p_go (p_sign f n (nI 44) k) fun k => p_bd (p_sum f n d k) fun B k => p_go (p_sign f n (nI 93) k) fun k => .inr (A ++ B ++ [(z, nI 0)], k)) = p_bd (p_bd (p_bd (p_bd (p_bd (p_sum f n d k) fun B k => .inr ([] ++ B, k)) _) _) _) _
    cases p_sum f n d k with
    | inl e => rfl
    | inr e =>
      obtain ⟨A, k1⟩ := e
      show (p_go (p_sign f n (nI 44) k1) fun k => p_bd (p_sum f n d k) fun B k => p_go (p_sign f n (nI 93) k) fun k => .inr (A ++ B ++ [(z, nI 0)], k)) = p_bd (p_bd (p_bd (p_go (p_sign f n (nI 44) k1) fun k => .inr ([] ++ A, k)) _) _) _
      cases p_sign f n (nI 44) k1 with
      | inl e => rfl
      | inr k2 =>
        show (p_bd (p_sum f n d k2) fun B k => p_go (p_sign f n (nI 93) k) fun k => .inr (A ++ B ++ [(z, nI 0)], k)) = p_bd (p_bd (p_bd (p_sum f n d k2) fun B k => .inr ([] ++ A ++ B, k)) _) _
        cases p_sum f n d k2 with
        | inl e => rfl
        | inr e =>
          obtain ⟨B, k3⟩ := e
          show (p_go (p_sign f n (nI 93) k3) fun k => .inr (A ++ B ++ [(z, nI 0)], k)) = p_bd (p_go (p_sign f n (nI 93) k3) fun k => .inr ([] ++ A ++ B, k)) _
          cases p_sign f n (nI 93) k3 with
          | inl e => rfl
          | inr k4 => rfl
theorem p_rn_l {f : Nat → Int32} {n : Nat} {ch : Int32} {c : Nat} {r : pR (List lC)} {L : List lC} {k : Nat} (hc : ¬ ch = nM) (hr : ∀ L k, r = .inr (L, k) → c + L.length ≤ k ∧ k ≤ n) (h : p_rs f n ch r = .inr (L, k)) : c + L.length < k ∧ k ≤ n := by
  obtain ⟨A, k1, e1, h⟩ := p_bd_r h
  obtain ⟨k2, e2, h⟩ := p_go_r h
  have := hr _ _ e1
  have g := p_sign_in hc this.2 e2
  have h := Sum.inr.inj h
  have q1 := congrArg Prod.fst h
  have q2 := congrArg Prod.snd h
  simp only at q1 q2
  subst q1
  subst q2
  omega
theorem t_lp.pf0 {I W J : tI} {n d c k k' : Nat} {L : List lC} (h : t_lp I W n d c (.inr (L, k))) (hJ : t_pf W J) (hp : t_ps J n (.inr k')) (hk : k ≤ k') : t_lp I J n d c (.inr (L, k')) := by
  obtain ⟨a1, a2, a3, a4, a5, a6⟩ := h
  exact ⟨hp, (hJ.2 8 (by decide) (by decide) (by decide)).trans a2, (hJ.2 28 (by decide) (by decide) (by decide)).trans a3, by omega, fun j hj => (hJ.1 _ (by omega)).trans (a5 j hj), t_cds_pf a6 (by omega) hJ.1⟩
theorem p_par_r {f : Nat → Int32} {n d b : Nat} : p_par f n (p_sm f n (d + 1)) b = p_rs f n (nI 41) (p_ra (p_sum f n d) (.inr ([], b + 1))) := by
  show (p_bd (p_sum f n d (b + 1)) fun A k => p_go (p_sign f n (nI 41) k) fun k => .inr (A, k)) = _
  unfold p_rs p_ra
  show _ = p_bd (p_bd (p_sum f n d (b + 1)) fun B k => .inr ([] ++ B, k)) _
  cases p_sum f n d (b + 1) with
  | inl e => rfl
  | inr e => rfl
def S_X11_sum (d : Nat) : xS := match d with
  | 0 => fun _ _ _ _ => False
  | d + 1 => tU fun as I Q => as = [.ref 0] ∧ ∃ f n c p, t_lin I f n d c p ∧ ∀ J, t_lf I J → t_lp I J n d c (p_go p (p_sum f n d)) → Q none J
def S_X11_one (d : Nat) : xS := match d with
  | 0 => fun _ _ _ _ => False
  | d + 1 => tU fun as I Q => as = [.ref 0] ∧ ∃ f n c p, t_lin I f n d c p ∧ ∀ J, t_lf I J → t_lp I J n d c (p_go p (p_unit f n (p_sm f n d))) → Q none J
abbrev bX11_one_0 : List xE := [(.aload_n 0, 1, 0, 0, 0), (.getfield 150, 4, 8, 5, 0), (.ifCond .eq 4, 7, 0, 8, 0), (.return_, 8, 0, 0, 0)]
abbrev bX11_one_8 : List xE := [(.aload_n 0, 9, 0, 0, 0), (.invokevirtual 156, 12, 0, 0, 9), (.aload_n 0, 13, 0, 0, 0), (.bipush 12, 15, 0, 0, 0), (.iconst 5, 16, 0, 0, 0), (.iconst 1, 17, 0, 0, 0), (.bipush 19, 19, 0, 0, 0), (.bipush 20, 21, 0, 0, 0), (.iconst 0, 22, 0, 0, 0), (.iconst 0, 23, 0, 0, 0), (.invokevirtual 189, 26, 0, 1, 9), (.ifCond .eq 8, 29, 0, 34, 0), (.bipush 7, 31, 0, 0, 0), (.goto 27, 34, 0, 58, 0)]
abbrev bX11_one_34 : List xE := [(.aload_n 0, 35, 0, 0, 0), (.bipush 13, 37, 0, 0, 0), (.bipush 15, 39, 0, 0, 0), (.bipush 19, 41, 0, 0, 0), (.bipush 20, 43, 0, 0, 0), (.iconst 0, 44, 0, 0, 0), (.iconst 0, 45, 0, 0, 0), (.iconst 0, 46, 0, 0, 0), (.invokevirtual 189, 49, 0, 1, 9), (.ifCond .eq 8, 52, 0, 57, 0), (.bipush 8, 54, 0, 0, 0), (.goto 4, 57, 0, 58, 0)]
abbrev bX11_one_57 : List xE := [(.iconst (-1), 58, 0, 0, 0)]
abbrev bX11_one_58 : List xE := [(.istore_n 1, 59, 0, 0, 0), (.iload_n 1, 60, 0, 0, 0), (.iconst (-1), 61, 0, 0, 0), (.if_icmp .eq 58, 64, 0, 119, 0), (.aload_n 0, 65, 0, 0, 0), (.invokevirtual 303, 68, 0, 2, 9), (.ifCond .ne 4, 71, 0, 72, 0), (.return_, 72, 0, 0, 0)]
abbrev bX11_one_72 : List xE := [(.aload_n 0, 73, 0, 0, 0), (.invokevirtual 193, 76, 0, 3, 9), (.aload_n 0, 77, 0, 0, 0), (.bipush 91, 79, 0, 0, 0), (.invokevirtual 232, 82, 0, 4, 9), (.aload_n 0, 83, 0, 0, 0), (.invokevirtual 307, 86, 0, 5, 9), (.aload_n 0, 87, 0, 0, 0), (.bipush 44, 89, 0, 0, 0), (.invokevirtual 232, 92, 0, 4, 9), (.aload_n 0, 93, 0, 0, 0), (.invokevirtual 307, 96, 0, 5, 9), (.aload_n 0, 97, 0, 0, 0), (.bipush 93, 99, 0, 0, 0), (.invokevirtual 232, 102, 0, 4, 9), (.aload_n 0, 103, 0, 0, 0), (.iload_n 1, 104, 0, 0, 0), (.iconst 0, 105, 0, 0, 0), (.invokevirtual 294, 108, 0, 6, 9), (.aload_n 0, 109, 0, 0, 0), (.dup, 110, 0, 0, 0), (.getfield 199, 113, 8, 8, 0), (.iconst 1, 114, 0, 0, 0), (.isub, 115, 0, 0, 0), (.putfield 199, 118, 8, 8, 0), (.return_, 119, 0, 0, 0)]
abbrev bX11_one_119 : List xE := [(.aload_n 0, 120, 0, 0, 0), (.aload_n 0, 121, 0, 0, 0), (.getfield 143, 124, 8, 4, 0), (.invokevirtual 146, 127, 0, 7, 9), (.bipush 40, 129, 0, 0, 0), (.if_icmp .ne 42, 132, 0, 171, 0), (.aload_n 0, 133, 0, 0, 0), (.invokevirtual 303, 136, 0, 2, 9), (.ifCond .ne 4, 139, 0, 140, 0), (.return_, 140, 0, 0, 0)]
abbrev bX11_one_140 : List xE := [(.aload_n 0, 141, 0, 0, 0), (.dup, 142, 0, 0, 0), (.getfield 143, 145, 8, 4, 0), (.iconst 1, 146, 0, 0, 0), (.iadd, 147, 0, 0, 0), (.putfield 143, 150, 8, 4, 0), (.aload_n 0, 151, 0, 0, 0), (.invokevirtual 307, 154, 0, 5, 9), (.aload_n 0, 155, 0, 0, 0), (.bipush 41, 157, 0, 0, 0), (.invokevirtual 232, 160, 0, 4, 9), (.aload_n 0, 161, 0, 0, 0), (.dup, 162, 0, 0, 0), (.getfield 199, 165, 8, 8, 0), (.iconst 1, 166, 0, 0, 0), (.isub, 167, 0, 0, 0), (.putfield 199, 170, 8, 8, 0), (.return_, 171, 0, 0, 0)]
abbrev bX11_one_171 : List xE := [(.aload_n 0, 172, 0, 0, 0), (.invokevirtual 310, 175, 0, 8, 9), (.istore_n 2, 176, 0, 0, 0), (.iload_n 2, 177, 0, 0, 0), (.iconst (-1), 178, 0, 0, 0), (.if_icmp .eq 12, 181, 0, 190, 0), (.aload_n 0, 182, 0, 0, 0), (.iconst 1, 183, 0, 0, 0), (.iload_n 2, 184, 0, 0, 0), (.invokevirtual 294, 187, 0, 6, 9), (.goto 16, 190, 0, 203, 0)]
abbrev bX11_one_190 : List xE := [(.aload_n 0, 191, 0, 0, 0), (.iconst 0, 192, 0, 0, 0), (.aload_n 0, 193, 0, 0, 0), (.iconst 0, 194, 0, 0, 0), (.sipush 999, 197, 0, 0, 0), (.invokevirtual 202, 200, 0, 9, 9), (.invokevirtual 294, 203, 0, 6, 9)]
abbrev bX11_one_203 : List xE := [(.return_, 204, 0, 0, 0)]
abbrev kX11_one : List (Nat × List xE) := [(0, bX11_one_0), (8, bX11_one_8), (34, bX11_one_34), (57, bX11_one_57), (58, bX11_one_58), (72, bX11_one_72), (119, bX11_one_119), (140, bX11_one_140), (171, bX11_one_171), (190, bX11_one_190), (203, bX11_one_203)]
abbrev lX11_one (d : Nat) : List (Nat × Nat × Nat × xS) := [(1, 0, 0, xm_this 8 S_X11_blanks), (8, 0, 0, xm_this 8 S_X11_isWord), (1, 0, 0, xm_this 8 S_X11_opens), (1, 0, 0, xm_this 8 S_X11_skipWord), (2, 0, 0, xm_this 8 S_X11_sign), (1, 0, 0, (xm_this 8 (S_X11_sum d))), (3, 0, 0, xm_this 8 S_X11_notes), (2, 0, 0, xm_this 8 S_X11_byteAt), (1, 0, 0, xm_this 8 S_X11_knownHere), (3, 0, 0, xm_this 8 S_X11_number)]
theorem oX11_one_0 {Iv : xI} (hI : xm_good Iv) (d : Nat)  (ih_X11_sum : xm_Ct Iv yX11_sum (ws_ yX11_sum cX11_sum 2 none) (3 * d + 10) 0 0 (S_X11_sum d)): xm_okb Iv RX11 cX11_one false (3 * d + 11) (lX11_one d) bX11_one_0 0 := xo_0 dX11_one_0 rfl trivial (xo_0 dX11_one_1 rfl (xm_fg_of (Or.inl q1960) (by decide) rfl (by decide) rfl rfl (Or.inl rfl) rfl) (xo_0 dX11_one_4 rfl rfl (xo_0 dX11_one_7 rfl trivial (xo_n))))
theorem oX11_one_8 {Iv : xI} (hI : xm_good Iv) (d : Nat)  (ih_X11_sum : xm_Ct Iv yX11_sum (ws_ yX11_sum cX11_sum 2 none) (3 * d + 10) 0 0 (S_X11_sum d)): xm_okb Iv RX11 cX11_one false (3 * d + 11) (lX11_one d) bX11_one_8 8 := xo_0 dX11_one_8 rfl trivial (xo_c rfl (cv_X11_blanks hI dX11_one_9 (Or.inl q2145) (by omega)) (xo_0 dX11_one_12 rfl trivial (xo_0 dX11_one_13 rfl (xo_bipush (by decide +kernel)) (xo_0 dX11_one_15 rfl trivial (xo_0 dX11_one_16 rfl trivial (xo_0 dX11_one_17 rfl (xo_bipush (by decide +kernel)) (xo_0 dX11_one_19 rfl (xo_bipush (by decide +kernel)) (xo_0 dX11_one_21 rfl trivial (xo_0 dX11_one_22 rfl trivial (xo_c rfl (cv_X11_isWord hI dX11_one_23 (Or.inl q2161) (by omega)) (xo_0 dX11_one_26 rfl rfl (xo_0 dX11_one_29 rfl (xo_bipush (by decide +kernel)) (xo_0 dX11_one_31 rfl rfl (xo_n))))))))))))))
theorem oX11_one_34 {Iv : xI} (hI : xm_good Iv) (d : Nat)  (ih_X11_sum : xm_Ct Iv yX11_sum (ws_ yX11_sum cX11_sum 2 none) (3 * d + 10) 0 0 (S_X11_sum d)): xm_okb Iv RX11 cX11_one false (3 * d + 11) (lX11_one d) bX11_one_34 34 := xo_0 dX11_one_34 rfl trivial (xo_0 dX11_one_35 rfl (xo_bipush (by decide +kernel)) (xo_0 dX11_one_37 rfl (xo_bipush (by decide +kernel)) (xo_0 dX11_one_39 rfl (xo_bipush (by decide +kernel)) (xo_0 dX11_one_41 rfl (xo_bipush (by decide +kernel)) (xo_0 dX11_one_43 rfl trivial (xo_0 dX11_one_44 rfl trivial (xo_0 dX11_one_45 rfl trivial (xo_c rfl (cv_X11_isWord hI dX11_one_46 (Or.inl q2161) (by omega)) (xo_0 dX11_one_49 rfl rfl (xo_0 dX11_one_52 rfl (xo_bipush (by decide +kernel)) (xo_0 dX11_one_54 rfl rfl (xo_n))))))))))))
theorem oX11_one_57 {Iv : xI} (hI : xm_good Iv) (d : Nat)  (ih_X11_sum : xm_Ct Iv yX11_sum (ws_ yX11_sum cX11_sum 2 none) (3 * d + 10) 0 0 (S_X11_sum d)): xm_okb Iv RX11 cX11_one false (3 * d + 11) (lX11_one d) bX11_one_57 57 := xo_0 dX11_one_57 rfl trivial (xo_n)
theorem oX11_one_58 {Iv : xI} (hI : xm_good Iv) (d : Nat)  (ih_X11_sum : xm_Ct Iv yX11_sum (ws_ yX11_sum cX11_sum 2 none) (3 * d + 10) 0 0 (S_X11_sum d)): xm_okb Iv RX11 cX11_one false (3 * d + 11) (lX11_one d) bX11_one_58 58 := xo_0 dX11_one_58 rfl trivial (xo_0 dX11_one_59 rfl trivial (xo_0 dX11_one_60 rfl trivial (xo_0 dX11_one_61 rfl rfl (xo_0 dX11_one_64 rfl trivial (xo_c rfl (cv_X11_opens hI dX11_one_65 (Or.inl q2256) (by omega)) (xo_0 dX11_one_68 rfl rfl (xo_0 dX11_one_71 rfl trivial (xo_n))))))))
theorem oX11_one_72 {Iv : xI} (hI : xm_good Iv) (d : Nat)  (ih_X11_sum : xm_Ct Iv yX11_sum (ws_ yX11_sum cX11_sum 2 none) (3 * d + 10) 0 0 (S_X11_sum d)): xm_okb Iv RX11 cX11_one false (3 * d + 11) (lX11_one d) bX11_one_72 72 := xo_0 dX11_one_72 rfl trivial (xo_c rfl (cv_X11_skipWord hI dX11_one_73 (Or.inl q2182) (by omega)) (xo_0 dX11_one_76 rfl trivial (xo_0 dX11_one_77 rfl (xo_bipush (by decide +kernel)) (xo_c rfl (cv_X11_sign hI dX11_one_79 (Or.inl q2232) (by omega)) (xo_0 dX11_one_82 rfl trivial (xo_c rfl (xm_callV 8 hI ih_X11_sum dX11_one_83 (Or.inl q2244) q2246 qs74 q145 q2247 rfl rfl (by decide +kernel) (by omega) (by decide)) (xo_0 dX11_one_86 rfl trivial (xo_0 dX11_one_87 rfl (xo_bipush (by decide +kernel)) (xo_c rfl (cv_X11_sign hI dX11_one_89 (Or.inl q2232) (by omega)) (xo_0 dX11_one_92 rfl trivial (xo_c rfl (xm_callV 8 hI ih_X11_sum dX11_one_93 (Or.inl q2244) q2246 qs74 q145 q2247 rfl rfl (by decide +kernel) (by omega) (by decide)) (xo_0 dX11_one_96 rfl trivial (xo_0 dX11_one_97 rfl (xo_bipush (by decide +kernel)) (xo_c rfl (cv_X11_sign hI dX11_one_99 (Or.inl q2232) (by omega)) (xo_0 dX11_one_102 rfl trivial (xo_0 dX11_one_103 rfl trivial (xo_0 dX11_one_104 rfl trivial (xo_c rfl (cv_X11_notes hI dX11_one_105 (Or.inl q2260) (by omega)) (xo_0 dX11_one_108 rfl trivial (xo_0 dX11_one_109 rfl trivial (xo_0 dX11_one_110 rfl (xm_fg_of (Or.inl q1963) (by decide) rfl (by decide) rfl rfl (Or.inl rfl) rfl) (xo_0 dX11_one_113 rfl trivial (xo_0 dX11_one_114 rfl trivial (xo_0 dX11_one_115 rfl (xm_fp_of (xm_fg_of (Or.inl q1963) (by decide) rfl (by decide) rfl rfl (Or.inl rfl) rfl) (by decide) rfl (Or.inl ⟨rfl, rfl⟩) rfl) (xo_0 dX11_one_118 rfl trivial (xo_n))))))))))))))))))))))))))
theorem oX11_one_119 {Iv : xI} (hI : xm_good Iv) (d : Nat)  (ih_X11_sum : xm_Ct Iv yX11_sum (ws_ yX11_sum cX11_sum 2 none) (3 * d + 10) 0 0 (S_X11_sum d)): xm_okb Iv RX11 cX11_one false (3 * d + 11) (lX11_one d) bX11_one_119 119 := xo_0 dX11_one_119 rfl trivial (xo_0 dX11_one_120 rfl trivial (xo_0 dX11_one_121 rfl (xm_fg_of (Or.inl q1959) (by decide) rfl (by decide) rfl rfl (Or.inl rfl) rfl) (xo_c rfl (cv_X11_byteAt hI dX11_one_124 (Or.inl q2149) (by omega)) (xo_0 dX11_one_127 rfl (xo_bipush (by decide +kernel)) (xo_0 dX11_one_129 rfl rfl (xo_0 dX11_one_132 rfl trivial (xo_c rfl (cv_X11_opens hI dX11_one_133 (Or.inl q2256) (by omega)) (xo_0 dX11_one_136 rfl rfl (xo_0 dX11_one_139 rfl trivial (xo_n))))))))))
theorem oX11_one_140 {Iv : xI} (hI : xm_good Iv) (d : Nat)  (ih_X11_sum : xm_Ct Iv yX11_sum (ws_ yX11_sum cX11_sum 2 none) (3 * d + 10) 0 0 (S_X11_sum d)): xm_okb Iv RX11 cX11_one false (3 * d + 11) (lX11_one d) bX11_one_140 140 := xo_0 dX11_one_140 rfl trivial (xo_0 dX11_one_141 rfl trivial (xo_0 dX11_one_142 rfl (xm_fg_of (Or.inl q1959) (by decide) rfl (by decide) rfl rfl (Or.inl rfl) rfl) (xo_0 dX11_one_145 rfl trivial (xo_0 dX11_one_146 rfl trivial (xo_0 dX11_one_147 rfl (xm_fp_of (xm_fg_of (Or.inl q1959) (by decide) rfl (by decide) rfl rfl (Or.inl rfl) rfl) (by decide) rfl (Or.inl ⟨rfl, rfl⟩) rfl) (xo_0 dX11_one_150 rfl trivial (xo_c rfl (xm_callV 8 hI ih_X11_sum dX11_one_151 (Or.inl q2244) q2246 qs74 q145 q2247 rfl rfl (by decide +kernel) (by omega) (by decide)) (xo_0 dX11_one_154 rfl trivial (xo_0 dX11_one_155 rfl (xo_bipush (by decide +kernel)) (xo_c rfl (cv_X11_sign hI dX11_one_157 (Or.inl q2232) (by omega)) (xo_0 dX11_one_160 rfl trivial (xo_0 dX11_one_161 rfl trivial (xo_0 dX11_one_162 rfl (xm_fg_of (Or.inl q1963) (by decide) rfl (by decide) rfl rfl (Or.inl rfl) rfl) (xo_0 dX11_one_165 rfl trivial (xo_0 dX11_one_166 rfl trivial (xo_0 dX11_one_167 rfl (xm_fp_of (xm_fg_of (Or.inl q1963) (by decide) rfl (by decide) rfl rfl (Or.inl rfl) rfl) (by decide) rfl (Or.inl ⟨rfl, rfl⟩) rfl) (xo_0 dX11_one_170 rfl trivial (xo_n))))))))))))))))))
theorem oX11_one_171 {Iv : xI} (hI : xm_good Iv) (d : Nat)  (ih_X11_sum : xm_Ct Iv yX11_sum (ws_ yX11_sum cX11_sum 2 none) (3 * d + 10) 0 0 (S_X11_sum d)): xm_okb Iv RX11 cX11_one false (3 * d + 11) (lX11_one d) bX11_one_171 171 := xo_0 dX11_one_171 rfl trivial (xo_c rfl (cv_X11_knownHere hI dX11_one_172 (Or.inl q2264) (by omega)) (xo_0 dX11_one_175 rfl trivial (xo_0 dX11_one_176 rfl trivial (xo_0 dX11_one_177 rfl trivial (xo_0 dX11_one_178 rfl rfl (xo_0 dX11_one_181 rfl trivial (xo_0 dX11_one_182 rfl trivial (xo_0 dX11_one_183 rfl trivial (xo_c rfl (cv_X11_notes hI dX11_one_184 (Or.inl q2260) (by omega)) (xo_0 dX11_one_187 rfl rfl (xo_n)))))))))))
theorem oX11_one_190 {Iv : xI} (hI : xm_good Iv) (d : Nat)  (ih_X11_sum : xm_Ct Iv yX11_sum (ws_ yX11_sum cX11_sum 2 none) (3 * d + 10) 0 0 (S_X11_sum d)): xm_okb Iv RX11 cX11_one false (3 * d + 11) (lX11_one d) bX11_one_190 190 := xo_0 dX11_one_190 rfl trivial (xo_0 dX11_one_191 rfl trivial (xo_0 dX11_one_192 rfl trivial (xo_0 dX11_one_193 rfl trivial (xo_0 dX11_one_194 rfl (xo_sipush (by decide +kernel)) (xo_c rfl (cv_X11_number hI dX11_one_197 (Or.inl q2190) (by omega)) (xo_c rfl (cv_X11_notes hI dX11_one_200 (Or.inl q2260) (by omega)) (xo_n)))))))
theorem oX11_one_203 {Iv : xI} (hI : xm_good Iv) (d : Nat)  (ih_X11_sum : xm_Ct Iv yX11_sum (ws_ yX11_sum cX11_sum 2 none) (3 * d + 10) 0 0 (S_X11_sum d)): xm_okb Iv RX11 cX11_one false (3 * d + 11) (lX11_one d) bX11_one_203 203 := xo_0 dX11_one_203 rfl trivial (xo_n)
theorem oX11_one {Iv : xI} (hI : xm_good Iv) (d : Nat)  (ih_X11_sum : xm_Ct Iv yX11_sum (ws_ yX11_sum cX11_sum 2 none) (3 * d + 10) 0 0 (S_X11_sum d)): ∀ q ∈ kX11_one, xm_okb Iv RX11 cX11_one false (3 * d + 11) (lX11_one d) q.2 q.1 := by
  intro q hq
  simp only [List.mem_cons, List.not_mem_nil, or_false] at hq
  rcases hq with rfl | rfl | rfl | rfl | rfl | rfl | rfl | rfl | rfl | rfl | rfl
  · exact oX11_one_0 hI d  ih_X11_sum
  · exact oX11_one_8 hI d  ih_X11_sum
  · exact oX11_one_34 hI d  ih_X11_sum
  · exact oX11_one_57 hI d  ih_X11_sum
  · exact oX11_one_58 hI d  ih_X11_sum
  · exact oX11_one_72 hI d  ih_X11_sum
  · exact oX11_one_119 hI d  ih_X11_sum
  · exact oX11_one_140 hI d  ih_X11_sum
  · exact oX11_one_171 hI d  ih_X11_sum
  · exact oX11_one_190 hI d  ih_X11_sum
  · exact oX11_one_203 hI d  ih_X11_sum
theorem body_X11_one (d : Nat) : xm_Body 3 2 0 0 [] (lX11_one d) kX11_one (S_X11_one (d + 1)) := by
  intro X avs w Q QX hX0 hS
  have hG := xm_go [] hX0
  have hX := xm_go [58,72,119,140,171,203] hX0
  clear hX0
  obtain ⟨I, rfl, rfl, f, n, c0, p, ⟨ht, hn150, hd6, hp, hc⟩, hQ⟩ := hS
  have hn := ht.2.1
  refine ⟨rfl, ?_⟩
  match p, hp, hc, hQ with
  | .inl (a, q), hp, hc, hQ =>
    have h5 : ¬ I 0 5 = 0 := by rw [hp.1, ← nI_0]; exact hp.2.1
    clear hc
    have hQ := hQ I t_lf.rf hp
    repeat' (first
      | ((with_reducible refine @And.intro (vp_in _ _) _ ?_ ?_); (· (first | with_reducible assumption | ((with_reducible refine t_vin ?_); decide) | ((with_reducible refine vp_in_nI ?_ ?_) <;> first | omega | decide) | (simp (disch := omega) only [xl_n, xl_m, nI_dec, nI_sb, nI_add, pk_mul]; (with_reducible refine vp_in_nI ?_ ?_) <;> first | omega | decide))); (conv => whnf))
      | (refine And.intro (by first | with_reducible assumption | exact (show tL _ = _ from rfl) | decide) ?_; (conv => whnf))
      | ((with_reducible refine @And.intro (_ = _) _ ?_ ?_); (· rfl); (conv => whnf))
      | ((with_reducible refine @And.intro (@LE.le Nat _ _ _) _ ?_ ?_); (· (first | exact Nat.zero_le _ | exact Nat.le_of_ble_eq_true rfl | omega)); (conv => whnf))
      | ((with_reducible refine @And.intro (@LT.lt Nat _ _ _) _ ?_ ?_); (· omega); (conv => whnf))
      | ((with_reducible refine @And.intro (∃ _, _ = _) _ ?_ ?_); (· exact ⟨_, rfl⟩); (conv => whnf))
      | ((with_reducible refine @And.intro (_ ∨ _) _ ?_ ?_); (· (first | exact Or.inl rfl | exact Or.inr rfl | exact t_b01 _ | assumption)); (conv => whnf))
      | ((with_reducible refine @And.intro (¬ (_ = _)) _ ?_ ?_); (· first | assumption | (with_reducible assumption)); (conv => whnf))
      | (refine hX _ _ _ _ _ _ ?_; (conv => whnf); fail_if_success show False)
      | (rw [t_si]; (conv => whnf))
      | (refine ⟨_, rfl, ?_⟩; (conv => whnf))
      | (refine ⟨_, _, rfl, ?_⟩; (conv => whnf))
      | (refine ⟨_, _, _, rfl, ?_⟩; (conv => whnf))
      | (refine ⟨_, _, _, _, rfl, ?_⟩; (conv => whnf))
      | (refine And.intro (fun c => ?_) (fun c => ?_) <;> (first | (exact absurd c (by decide +kernel)) | (exact absurd c (by assumption)) | (exact False.elim (c (by assumption))) | (conv => whnf)))
      | fail)
    exact hQ
  | .inr k, hp, hc, hQ =>
    obtain ⟨h8, h28, hck⟩ := hc k rfl
    obtain ⟨h5, h4, hk⟩ := t_ps_n hp
    have hQ : ∀ J, t_lf I J → t_lp I J n d c0 (p_unit f n (p_sm f n d) k) → Q none (tW J) := hQ
    unfold p_unit at hQ
    obtain ⟨hb1, hb2⟩ := p_bl_in (f := f) hk
    have hbb := p_bl_bl (f := f) hk
    generalize hb : p_bl f n k = b at hb1 hb2 hQ hbb
    have hW : t_pf I (xm_u2 I 0 4 (nI b)) := t_pf.u (Or.inl rfl)
    have htb := hW.tx ht
    have w5 : xm_u2 I 0 4 (nI b) 0 5 = nI 0 := by rw [xm_u2_at, if_neg (by decide)]; exact h5
    have w4 : xm_u2 I 0 4 (nI b) 0 4 = nI b := by rw [xm_u2_at, if_pos rfl]
    have w8 : xm_u2 I 0 4 (nI b) 0 8 = nI (6 - d) := by rw [xm_u2_at, if_neg (by decide)]; exact h8
    have w28 : xm_u2 I 0 4 (nI b) 0 28 = nI c0 := by rw [xm_u2_at, if_neg (by decide)]; exact h28
    have wl : t_lf I (xm_u2 I 0 4 (nI b)) := hW.l
    have hcb : c0 ≤ b := Nat.le_trans hck hb1
    obtain ⟨W, hWe⟩ : ∃ W, W = xm_u2 I 0 4 (nI b) := ⟨_, rfl⟩
    rw [← hWe] at htb w5 w4 w8 w28 wl
    have wr : ∀ j, W (400 + j) = I (400 + j) := fun j => by rw [hWe]; exact funext fun i => xm_u2_ne (by omega) i
    have w5' : W 0 5 = 0 := w5.trans nI_0
    have x72 : ∀ d', d = d' + 1 → ∀ z M o2, t_lf I M → t_lp I M n d' c0 (.inr ([], b)) → (∀ J, t_lf I J → t_lp I J n d c0 (p_two f n (p_sm f n d) (nI z) b) → Q none (tW J)) → X 72 [some (.ref 0), some (.int (nI z)), o2] [] (tW M) 0 0 := by
      clear hQ
      intro d' hd z M o2 hM hlp hQ
      subst hd
      rw [p_two_r] at hQ
      have htM := hM.tx ht
      obtain ⟨m5, m4, mk⟩ := t_ps_n hlp.1
      have hl := p_le_in (f := f) hb2
      have hW1 : t_pf M (xm_u2 M 0 4 (nI (p_le f n b))) := t_pf.u (Or.inl rfl)
      have lp0 : t_lp I (xm_u2 M 0 4 (nI (p_le f n b))) n d' c0 (.inr ([], p_le f n b)) := ⟨⟨(by rw [xm_u2_at, if_neg (by decide)]; exact m5), by rw [xm_u2_at, if_pos rfl], hl.2⟩, by rw [xm_u2_at, if_neg (by decide)]; exact hlp.2.1, by rw [xm_u2_at, if_neg (by decide)]; exact hlp.2.2.1, by simp; omega, fun j hj => (hW1.1 _ (by omega)).trans (hlp.2.2.2.2.1 j hj), fun j x hx => by simp at hx⟩
      have lf0 := hM.tr hW1.l
      have ht0 := lf0.tx ht
      have ps0 := lp0.ps
      have h91 : ¬ nI 91 = nM := by decide +kernel
      have h44 : ¬ nI 44 = nM := by decide +kernel
      have h93 : ¬ nI 93 = nM := by decide +kernel
      clear hlp
      refine hG _ _ _ _ _ _ ?_
      (conv => whnf)
      repeat' (first
        | ((with_reducible refine @And.intro (vp_in _ _) _ ?_ ?_); (· (first | with_reducible assumption | ((with_reducible refine t_vin ?_); decide) | ((with_reducible refine vp_in_nI ?_ ?_) <;> first | omega | decide) | (simp (disch := omega) only [xl_n, xl_m, nI_dec, nI_sb, nI_add, pk_mul]; (with_reducible refine vp_in_nI ?_ ?_) <;> first | omega | decide))); (conv => whnf))
        | (refine And.intro (by first | with_reducible assumption | exact (show tL _ = _ from rfl) | decide) ?_; (conv => whnf))
        | ((with_reducible refine @And.intro (_ = _) _ ?_ ?_); (· rfl); (conv => whnf))
        | ((with_reducible refine @And.intro (@LE.le Nat _ _ _) _ ?_ ?_); (· (first | exact Nat.zero_le _ | exact Nat.le_of_ble_eq_true rfl | omega)); (conv => whnf))
        | ((with_reducible refine @And.intro (@LT.lt Nat _ _ _) _ ?_ ?_); (· omega); (conv => whnf))
        | ((with_reducible refine @And.intro (∃ _, _ = _) _ ?_ ?_); (· exact ⟨_, rfl⟩); (conv => whnf))
        | ((with_reducible refine @And.intro (_ ∨ _) _ ?_ ?_); (· (first | exact Or.inl rfl | exact Or.inr rfl | exact t_b01 _ | assumption)); (conv => whnf))
        | ((with_reducible refine @And.intro (¬ (_ = _)) _ ?_ ?_); (· first | assumption | (with_reducible assumption)); (conv => whnf))
        | (refine hX _ _ _ _ _ _ ?_; (conv => whnf); fail_if_success show False)
        | (rw [t_si]; (conv => whnf))
        | (refine ⟨_, rfl, ?_⟩; (conv => whnf))
        | (refine ⟨_, _, rfl, ?_⟩; (conv => whnf))
        | (refine ⟨_, _, _, rfl, ?_⟩; (conv => whnf))
        | (refine ⟨_, _, _, _, rfl, ?_⟩; (conv => whnf))
        | (refine ⟨_, _, (by with_reducible assumption), ?_⟩; (conv => whnf))
        | (refine ⟨_, (by first | with_reducible assumption | exact rfl), ?_⟩; (conv => whnf))
        | (refine And.intro (fun c => ?_) (fun c => ?_) <;> (first | (exact absurd c (by decide +kernel)) | (conv => whnf)))
        | fail)
      intro J1 hJ1 hp1
      (conv => whnf)
      have lp1 := lp0.sgn hJ1 h91 hp1
      have lf1 := lf0.tr hJ1.l
      clear lp0 ps0 ht0 hp1
      generalize p_rs f n (nI 91) (.inr ([], p_le f n b)) = r1 at lp1 hQ
      have in1 := lp1.lin (lf1.tx ht) hn150 (by omega)
      repeat' (first
        | (refine ⟨_,_,_,_,(by assumption),?_⟩; (conv => whnf))
        | ((with_reducible refine @And.intro (vp_in _ _) _ ?_ ?_); (· (first | with_reducible assumption | ((with_reducible refine t_vin ?_); decide) | ((with_reducible refine vp_in_nI ?_ ?_) <;> first | omega | decide) | (simp (disch := omega) only [xl_n, xl_m, nI_dec, nI_sb, nI_add, pk_mul]; (with_reducible refine vp_in_nI ?_ ?_) <;> first | omega | decide))); (conv => whnf))
        | (refine And.intro (by first | with_reducible assumption | exact (show tL _ = _ from rfl) | decide) ?_; (conv => whnf))
        | ((with_reducible refine @And.intro (_ = _) _ ?_ ?_); (· rfl); (conv => whnf))
        | ((with_reducible refine @And.intro (@LE.le Nat _ _ _) _ ?_ ?_); (· (first | exact Nat.zero_le _ | exact Nat.le_of_ble_eq_true rfl | omega)); (conv => whnf))
        | ((with_reducible refine @And.intro (@LT.lt Nat _ _ _) _ ?_ ?_); (· omega); (conv => whnf))
        | ((with_reducible refine @And.intro (∃ _, _ = _) _ ?_ ?_); (· exact ⟨_, rfl⟩); (conv => whnf))
        | ((with_reducible refine @And.intro (_ ∨ _) _ ?_ ?_); (· (first | exact Or.inl rfl | exact Or.inr rfl | exact t_b01 _ | assumption)); (conv => whnf))
        | ((with_reducible refine @And.intro (¬ (_ = _)) _ ?_ ?_); (· first | assumption | (with_reducible assumption)); (conv => whnf))
        | (refine hX _ _ _ _ _ _ ?_; (conv => whnf); fail_if_success show False)
        | (rw [t_si]; (conv => whnf))
        | (refine ⟨_, rfl, ?_⟩; (conv => whnf))
        | (refine ⟨_, _, rfl, ?_⟩; (conv => whnf))
        | (refine ⟨_, _, _, rfl, ?_⟩; (conv => whnf))
        | (refine ⟨_, _, _, _, rfl, ?_⟩; (conv => whnf))
        | (refine And.intro (fun c => ?_) (fun c => ?_) <;> (first | (exact absurd c (by decide +kernel)) | (conv => whnf)))
        | fail)
      intro J2 hJ2 hp2
      (conv => whnf)
      have lp2 := lp1.more hp2
      have lf2 := lf1.tr hJ2
      have ht2 := lf2.tx ht
      have ps2 := lp2.ps
      clear lp1 lf1 in1 hp2 hJ2
      generalize p_ra (p_sum f n d') r1 = r2 at lp2 hQ ps2
      repeat' (first
        | ((with_reducible refine @And.intro (vp_in _ _) _ ?_ ?_); (· (first | with_reducible assumption | ((with_reducible refine t_vin ?_); decide) | ((with_reducible refine vp_in_nI ?_ ?_) <;> first | omega | decide) | (simp (disch := omega) only [xl_n, xl_m, nI_dec, nI_sb, nI_add, pk_mul]; (with_reducible refine vp_in_nI ?_ ?_) <;> first | omega | decide))); (conv => whnf))
        | (refine And.intro (by first | with_reducible assumption | exact (show tL _ = _ from rfl) | decide) ?_; (conv => whnf))
        | ((with_reducible refine @And.intro (_ = _) _ ?_ ?_); (· rfl); (conv => whnf))
        | ((with_reducible refine @And.intro (@LE.le Nat _ _ _) _ ?_ ?_); (· (first | exact Nat.zero_le _ | exact Nat.le_of_ble_eq_true rfl | omega)); (conv => whnf))
        | ((with_reducible refine @And.intro (@LT.lt Nat _ _ _) _ ?_ ?_); (· omega); (conv => whnf))
        | ((with_reducible refine @And.intro (∃ _, _ = _) _ ?_ ?_); (· exact ⟨_, rfl⟩); (conv => whnf))
        | ((with_reducible refine @And.intro (_ ∨ _) _ ?_ ?_); (· (first | exact Or.inl rfl | exact Or.inr rfl | exact t_b01 _ | assumption)); (conv => whnf))
        | ((with_reducible refine @And.intro (¬ (_ = _)) _ ?_ ?_); (· first | assumption | (with_reducible assumption)); (conv => whnf))
        | (refine hX _ _ _ _ _ _ ?_; (conv => whnf); fail_if_success show False)
        | (rw [t_si]; (conv => whnf))
        | (refine ⟨_, rfl, ?_⟩; (conv => whnf))
        | (refine ⟨_, _, rfl, ?_⟩; (conv => whnf))
        | (refine ⟨_, _, _, rfl, ?_⟩; (conv => whnf))
        | (refine ⟨_, _, _, _, rfl, ?_⟩; (conv => whnf))
        | (refine ⟨_, _, (by with_reducible assumption), ?_⟩; (conv => whnf))
        | (refine ⟨_, (by first | with_reducible assumption | exact rfl), ?_⟩; (conv => whnf))
        | (refine And.intro (fun c => ?_) (fun c => ?_) <;> (first | (exact absurd c (by decide +kernel)) | (conv => whnf)))
        | fail)
      intro J3 hJ3 hp3
      (conv => whnf)
      have lp3 := lp2.sgn hJ3 h44 hp3
      have lf3 := lf2.tr hJ3.l
      clear lp2 ps2 ht2 hp3 lf2
      generalize p_rs f n (nI 44) r2 = r3 at lp3 hQ
      have in3 := lp3.lin (lf3.tx ht) hn150 (by omega)
      repeat' (first
        | (refine ⟨_,_,_,_,(by assumption),?_⟩; (conv => whnf))
        | ((with_reducible refine @And.intro (vp_in _ _) _ ?_ ?_); (· (first | with_reducible assumption | ((with_reducible refine t_vin ?_); decide) | ((with_reducible refine vp_in_nI ?_ ?_) <;> first | omega | decide) | (simp (disch := omega) only [xl_n, xl_m, nI_dec, nI_sb, nI_add, pk_mul]; (with_reducible refine vp_in_nI ?_ ?_) <;> first | omega | decide))); (conv => whnf))
        | (refine And.intro (by first | with_reducible assumption | exact (show tL _ = _ from rfl) | decide) ?_; (conv => whnf))
        | ((with_reducible refine @And.intro (_ = _) _ ?_ ?_); (· rfl); (conv => whnf))
        | ((with_reducible refine @And.intro (@LE.le Nat _ _ _) _ ?_ ?_); (· (first | exact Nat.zero_le _ | exact Nat.le_of_ble_eq_true rfl | omega)); (conv => whnf))
        | ((with_reducible refine @And.intro (@LT.lt Nat _ _ _) _ ?_ ?_); (· omega); (conv => whnf))
        | ((with_reducible refine @And.intro (∃ _, _ = _) _ ?_ ?_); (· exact ⟨_, rfl⟩); (conv => whnf))
        | ((with_reducible refine @And.intro (_ ∨ _) _ ?_ ?_); (· (first | exact Or.inl rfl | exact Or.inr rfl | exact t_b01 _ | assumption)); (conv => whnf))
        | ((with_reducible refine @And.intro (¬ (_ = _)) _ ?_ ?_); (· first | assumption | (with_reducible assumption)); (conv => whnf))
        | (refine hX _ _ _ _ _ _ ?_; (conv => whnf); fail_if_success show False)
        | (rw [t_si]; (conv => whnf))
        | (refine ⟨_, rfl, ?_⟩; (conv => whnf))
        | (refine ⟨_, _, rfl, ?_⟩; (conv => whnf))
        | (refine ⟨_, _, _, rfl, ?_⟩; (conv => whnf))
        | (refine ⟨_, _, _, _, rfl, ?_⟩; (conv => whnf))
        | (refine And.intro (fun c => ?_) (fun c => ?_) <;> (first | (exact absurd c (by decide +kernel)) | (conv => whnf)))
        | fail)
      intro J4 hJ4 hp4
      (conv => whnf)
      have lp4 := lp3.more hp4
      have lf4 := lf3.tr hJ4
      have ht4 := lf4.tx ht
      have ps4 := lp4.ps
      clear lp3 lf3 in3 hp4 hJ4
      generalize p_ra (p_sum f n d') r3 = r4 at lp4 hQ ps4
      repeat' (first
        | ((with_reducible refine @And.intro (vp_in _ _) _ ?_ ?_); (· (first | with_reducible assumption | ((with_reducible refine t_vin ?_); decide) | ((with_reducible refine vp_in_nI ?_ ?_) <;> first | omega | decide) | (simp (disch := omega) only [xl_n, xl_m, nI_dec, nI_sb, nI_add, pk_mul]; (with_reducible refine vp_in_nI ?_ ?_) <;> first | omega | decide))); (conv => whnf))
        | (refine And.intro (by first | with_reducible assumption | exact (show tL _ = _ from rfl) | decide) ?_; (conv => whnf))
        | ((with_reducible refine @And.intro (_ = _) _ ?_ ?_); (· rfl); (conv => whnf))
        | ((with_reducible refine @And.intro (@LE.le Nat _ _ _) _ ?_ ?_); (· (first | exact Nat.zero_le _ | exact Nat.le_of_ble_eq_true rfl | omega)); (conv => whnf))
        | ((with_reducible refine @And.intro (@LT.lt Nat _ _ _) _ ?_ ?_); (· omega); (conv => whnf))
        | ((with_reducible refine @And.intro (∃ _, _ = _) _ ?_ ?_); (· exact ⟨_, rfl⟩); (conv => whnf))
        | ((with_reducible refine @And.intro (_ ∨ _) _ ?_ ?_); (· (first | exact Or.inl rfl | exact Or.inr rfl | exact t_b01 _ | assumption)); (conv => whnf))
        | ((with_reducible refine @And.intro (¬ (_ = _)) _ ?_ ?_); (· first | assumption | (with_reducible assumption)); (conv => whnf))
        | (refine hX _ _ _ _ _ _ ?_; (conv => whnf); fail_if_success show False)
        | (rw [t_si]; (conv => whnf))
        | (refine ⟨_, rfl, ?_⟩; (conv => whnf))
        | (refine ⟨_, _, rfl, ?_⟩; (conv => whnf))
        | (refine ⟨_, _, _, rfl, ?_⟩; (conv => whnf))
        | (refine ⟨_, _, _, _, rfl, ?_⟩; (conv => whnf))
        | (refine ⟨_, _, (by with_reducible assumption), ?_⟩; (conv => whnf))
        | (refine ⟨_, (by first | with_reducible assumption | exact rfl), ?_⟩; (conv => whnf))
        | (refine And.intro (fun c => ?_) (fun c => ?_) <;> (first | (exact absurd c (by decide +kernel)) | (conv => whnf)))
        | fail)
      intro J5 hJ5 hp5
      (conv => whnf)
      have lp5 := lp4.sgn hJ5 h93 hp5
      have lf5 := lf4.tr hJ5.l
      have hlen : ∀ L k, p_rs f n (nI 93) r4 = .inr (L, k) → c0 + L.length < k ∧ k ≤ n := fun L k h => p_rn_l h93 (fun L k h => by
        rw [h] at lp4
        exact ⟨lp4.2.2.2.1, lp4.1.2.2⟩) h
      clear lp4 ps4 ht4 hp5 lf4
      generalize p_rs f n (nI 93) r4 = r5 at lp5 hQ hlen
      rcases lp5.n0 with ⟨e, rfl, h5⟩ | ⟨L, k5, rfl, h5, h28, hck5, hk5⟩
      · have fin := hQ (xm_u2 J5 0 8 (J5 0 8 - Int32.ofInt 1)) (lf5.tr (t_lf.u0 (by omega))) (t_lp.op (e := d' + 1) lp5 fun L k h => by cases h)
        repeat' (first
          | ((with_reducible refine @And.intro (vp_in _ _) _ ?_ ?_); (· (first | with_reducible assumption | ((with_reducible refine t_vin ?_); decide) | ((with_reducible refine vp_in_nI ?_ ?_) <;> first | omega | decide) | (simp (disch := omega) only [xl_n, xl_m, nI_dec, nI_sb, nI_add, pk_mul]; (with_reducible refine vp_in_nI ?_ ?_) <;> first | omega | decide))); (conv => whnf))
          | (refine And.intro (by first | with_reducible assumption | exact (show tL _ = _ from rfl) | decide) ?_; (conv => whnf))
          | ((with_reducible refine @And.intro (_ = _) _ ?_ ?_); (· rfl); (conv => whnf))
          | ((with_reducible refine @And.intro (@LE.le Nat _ _ _) _ ?_ ?_); (· (first | exact Nat.zero_le _ | exact Nat.le_of_ble_eq_true rfl | omega)); (conv => whnf))
          | ((with_reducible refine @And.intro (@LT.lt Nat _ _ _) _ ?_ ?_); (· omega); (conv => whnf))
          | ((with_reducible refine @And.intro (∃ _, _ = _) _ ?_ ?_); (· exact ⟨_, rfl⟩); (conv => whnf))
          | ((with_reducible refine @And.intro (_ ∨ _) _ ?_ ?_); (· (first | exact Or.inl rfl | exact Or.inr rfl | exact t_b01 _ | assumption)); (conv => whnf))
          | ((with_reducible refine @And.intro (¬ (_ = _)) _ ?_ ?_); (· first | assumption | (with_reducible assumption)); (conv => whnf))
          | (refine hX _ _ _ _ _ _ ?_; (conv => whnf); fail_if_success show False)
          | (rw [t_si]; (conv => whnf))
          | (refine ⟨_, rfl, ?_⟩; (conv => whnf))
          | (refine ⟨_, _, rfl, ?_⟩; (conv => whnf))
          | (refine ⟨_, _, _, rfl, ?_⟩; (conv => whnf))
          | (refine ⟨_, _, _, _, rfl, ?_⟩; (conv => whnf))
          | (refine And.intro (fun c => ?_) (fun c => ?_) <;> (first | (exact absurd c (by decide +kernel)) | (exact absurd c (by assumption)) | (exact False.elim (c (by assumption))) | (conv => whnf)))
          | fail)
        exact fin
      · have hl5 := (hlen L k5 rfl).1
        have lp6 := lp5.note (z := nI z) (v := nI 0) hl5
        have lf6 : t_lf I (xm_u2 (xm_u2 (xm_u2 J5 (400 + (c0 + L.length)) 0 (nI z)) (400 + (c0 + L.length)) 1 (nI 0)) 0 28 (nI (c0 + L.length + 1))) := ((lf5.tr (t_lf.u (by omega))).tr (t_lf.u (by omega))).tr (t_lf.u0 (by omega))
        have f8 := lp6.2.1
        have fin := hQ _ (lf6.tr (t_lf.u0 (k := 8) (v := nI (6 - d') - Int32.ofInt 1) (by omega))) (t_lp.op (e := d' + 1) lp6 fun L k h => by
          rw [show 6 - d' = (6 - (d' + 1)) + 1 by omega, xl_n.2.1, nI_sb])
        rw [← f8] at fin
        have hc160 : c0 + L.length < 160 := by omega
        repeat' (first
          | (refine ⟨_,(by assumption),(by assumption),?_⟩; (conv => whnf))
          | ((with_reducible refine @And.intro (vp_in _ _) _ ?_ ?_); (· (first | with_reducible assumption | ((with_reducible refine t_vin ?_); decide) | ((with_reducible refine vp_in_nI ?_ ?_) <;> first | omega | decide) | (simp (disch := omega) only [xl_n, xl_m, nI_dec, nI_sb, nI_add, pk_mul]; (with_reducible refine vp_in_nI ?_ ?_) <;> first | omega | decide))); (conv => whnf))
          | (refine And.intro (by first | with_reducible assumption | exact (show tL _ = _ from rfl) | decide) ?_; (conv => whnf))
          | ((with_reducible refine @And.intro (_ = _) _ ?_ ?_); (· rfl); (conv => whnf))
          | ((with_reducible refine @And.intro (@LE.le Nat _ _ _) _ ?_ ?_); (· (first | exact Nat.zero_le _ | exact Nat.le_of_ble_eq_true rfl | omega)); (conv => whnf))
          | ((with_reducible refine @And.intro (@LT.lt Nat _ _ _) _ ?_ ?_); (· omega); (conv => whnf))
          | ((with_reducible refine @And.intro (∃ _, _ = _) _ ?_ ?_); (· exact ⟨_, rfl⟩); (conv => whnf))
          | ((with_reducible refine @And.intro (_ ∨ _) _ ?_ ?_); (· (first | exact Or.inl rfl | exact Or.inr rfl | exact t_b01 _ | assumption)); (conv => whnf))
          | ((with_reducible refine @And.intro (¬ (_ = _)) _ ?_ ?_); (· first | assumption | (with_reducible assumption)); (conv => whnf))
          | (refine hX _ _ _ _ _ _ ?_; (conv => whnf); fail_if_success show False)
          | (rw [t_si]; (conv => whnf))
          | (refine ⟨_, rfl, ?_⟩; (conv => whnf))
          | (refine ⟨_, _, rfl, ?_⟩; (conv => whnf))
          | (refine ⟨_, _, _, rfl, ?_⟩; (conv => whnf))
          | (refine ⟨_, _, _, _, rfl, ?_⟩; (conv => whnf))
          | (refine And.intro (fun c => ?_) (fun c => ?_) <;> (first | (exact absurd c (by decide +kernel)) | (exact absurd c (by assumption)) | (exact False.elim (c (by assumption))) | (conv => whnf)))
          | fail)
        exact fin
    have x140 : ∀ d', d = d' + 1 → ∀ M o1 o2, p_at f n b = nI 40 → t_lf I M → t_lp I M n d' c0 (.inr ([], b)) → (∀ J, t_lf I J → t_lp I J n d c0 (p_par f n (p_sm f n d) b) → Q none (tW J)) → X 140 [some (.ref 0), o1, o2] [] (tW M) 0 0 := by
      clear hQ x72
      intro d' hd M o1 o2 hat hM hlp hQ
      subst hd
      rw [p_par_r] at hQ
      obtain ⟨m5, m4, mk⟩ := t_ps_n hlp.1
      have hbn : b < n := p_at_lt hat (by decide +kernel)
      have hW1 : t_pf M (xm_u2 M 0 4 (nI (b + 1))) := t_pf.u (Or.inl rfl)
      have lp0 : t_lp I (xm_u2 M 0 4 (nI (b + 1))) n d' c0 (.inr ([], b + 1)) := ⟨⟨(by rw [xm_u2_at, if_neg (by decide)]; exact m5), by rw [xm_u2_at, if_pos rfl], hbn⟩, by rw [xm_u2_at, if_neg (by decide)]; exact hlp.2.1, by rw [xm_u2_at, if_neg (by decide)]; exact hlp.2.2.1, by simp; omega, fun j hj => (hW1.1 _ (by omega)).trans (hlp.2.2.2.2.1 j hj), fun j x hx => by simp at hx⟩
      have lf0 := hM.tr hW1.l
      have in0 := lp0.lin (lf0.tx ht) hn150 (by omega)
      have h41 : ¬ nI 41 = nM := by decide +kernel
      have e4 : M 0 4 + nI 1 = nI (b + 1) := by rw [m4, nI_add]
      clear hlp
      refine hG _ _ _ _ _ _ ?_
      (conv => whnf)
      repeat' (first
        | (rw [e4]; (conv => whnf))
        | (refine ⟨_,_,_,_,(by assumption),?_⟩; (conv => whnf))
        | ((with_reducible refine @And.intro (vp_in _ _) _ ?_ ?_); (· (first | with_reducible assumption | ((with_reducible refine t_vin ?_); decide) | ((with_reducible refine vp_in_nI ?_ ?_) <;> first | omega | decide) | (simp (disch := omega) only [xl_n, xl_m, nI_dec, nI_sb, nI_add, pk_mul]; (with_reducible refine vp_in_nI ?_ ?_) <;> first | omega | decide))); (conv => whnf))
        | (refine And.intro (by first | with_reducible assumption | exact (show tL _ = _ from rfl) | decide) ?_; (conv => whnf))
        | ((with_reducible refine @And.intro (_ = _) _ ?_ ?_); (· rfl); (conv => whnf))
        | ((with_reducible refine @And.intro (@LE.le Nat _ _ _) _ ?_ ?_); (· (first | exact Nat.zero_le _ | exact Nat.le_of_ble_eq_true rfl | omega)); (conv => whnf))
        | ((with_reducible refine @And.intro (@LT.lt Nat _ _ _) _ ?_ ?_); (· omega); (conv => whnf))
        | ((with_reducible refine @And.intro (∃ _, _ = _) _ ?_ ?_); (· exact ⟨_, rfl⟩); (conv => whnf))
        | ((with_reducible refine @And.intro (_ ∨ _) _ ?_ ?_); (· (first | exact Or.inl rfl | exact Or.inr rfl | exact t_b01 _ | assumption)); (conv => whnf))
        | ((with_reducible refine @And.intro (¬ (_ = _)) _ ?_ ?_); (· first | assumption | (with_reducible assumption)); (conv => whnf))
        | (refine hX _ _ _ _ _ _ ?_; (conv => whnf); fail_if_success show False)
        | (rw [t_si]; simp (disch := omega) only [xl_n, xl_m, nI_dec, nI_sb, xl_0, xl_1, tW_i, t_bn0, t_bn1, Classical.not_not, t_lt, nI_add, nI_1, pk_mul, nI_clamp, t_si, nI_eq, nI_leI, nM_ne, nM_ne, xm_u2_ne, xm_u2_at, reduceIte, tK_u, tA_u, Nat.reduceEqDiff]; (conv => whnf))
        | (refine ⟨_, rfl, ?_⟩; (conv => whnf))
        | (refine ⟨_, _, rfl, ?_⟩; (conv => whnf))
        | (refine ⟨_, _, _, rfl, ?_⟩; (conv => whnf))
        | (refine ⟨_, _, _, _, rfl, ?_⟩; (conv => whnf))
        | (refine And.intro (fun c => ?_) (fun c => ?_) <;> (first | (exact absurd c (by decide +kernel)) | (conv => whnf)))
        | fail)
      intro J2 hJ2 hp2
      (conv => whnf)
      have lp2 := lp0.more hp2
      have lf2 := lf0.tr hJ2
      have ht2 := lf2.tx ht
      have ps2 := lp2.ps
      clear lp0 lf0 in0 hp2 hJ2
      generalize p_ra (p_sum f n d') (.inr ([], b + 1)) = r2 at lp2 hQ ps2
      repeat' (first
        | ((with_reducible refine @And.intro (vp_in _ _) _ ?_ ?_); (· (first | with_reducible assumption | ((with_reducible refine t_vin ?_); decide) | ((with_reducible refine vp_in_nI ?_ ?_) <;> first | omega | decide) | (simp (disch := omega) only [xl_n, xl_m, nI_dec, nI_sb, nI_add, pk_mul]; (with_reducible refine vp_in_nI ?_ ?_) <;> first | omega | decide))); (conv => whnf))
        | (refine And.intro (by first | with_reducible assumption | exact (show tL _ = _ from rfl) | decide) ?_; (conv => whnf))
        | ((with_reducible refine @And.intro (_ = _) _ ?_ ?_); (· rfl); (conv => whnf))
        | ((with_reducible refine @And.intro (@LE.le Nat _ _ _) _ ?_ ?_); (· (first | exact Nat.zero_le _ | exact Nat.le_of_ble_eq_true rfl | omega)); (conv => whnf))
        | ((with_reducible refine @And.intro (@LT.lt Nat _ _ _) _ ?_ ?_); (· omega); (conv => whnf))
        | ((with_reducible refine @And.intro (∃ _, _ = _) _ ?_ ?_); (· exact ⟨_, rfl⟩); (conv => whnf))
        | ((with_reducible refine @And.intro (_ ∨ _) _ ?_ ?_); (· (first | exact Or.inl rfl | exact Or.inr rfl | exact t_b01 _ | assumption)); (conv => whnf))
        | ((with_reducible refine @And.intro (¬ (_ = _)) _ ?_ ?_); (· first | assumption | (with_reducible assumption)); (conv => whnf))
        | (refine hX _ _ _ _ _ _ ?_; (conv => whnf); fail_if_success show False)
        | (rw [t_si]; (conv => whnf))
        | (refine ⟨_, rfl, ?_⟩; (conv => whnf))
        | (refine ⟨_, _, rfl, ?_⟩; (conv => whnf))
        | (refine ⟨_, _, _, rfl, ?_⟩; (conv => whnf))
        | (refine ⟨_, _, _, _, rfl, ?_⟩; (conv => whnf))
        | (refine ⟨_, _, (by with_reducible assumption), ?_⟩; (conv => whnf))
        | (refine ⟨_, (by first | with_reducible assumption | exact rfl), ?_⟩; (conv => whnf))
        | (refine And.intro (fun c => ?_) (fun c => ?_) <;> (first | (exact absurd c (by decide +kernel)) | (conv => whnf)))
        | fail)
      intro J3 hJ3 hp3
      (conv => whnf)
      have lp3 := lp2.sgn hJ3 h41 hp3
      have lf3 := lf2.tr hJ3.l
      clear lp2 ps2 ht2 hp3 lf2
      generalize p_rs f n (nI 41) r2 = r3 at lp3 hQ
      have fin := hQ (xm_u2 J3 0 8 (J3 0 8 - Int32.ofInt 1)) (lf3.tr (t_lf.u0 (by omega))) (t_lp.op (e := d' + 1) lp3 fun L k h => by
        subst h
        rw [lp3.2.1, show 6 - d' = (6 - (d' + 1)) + 1 by omega, xl_n.2.1, nI_sb])
      repeat' (first
        | ((with_reducible refine @And.intro (vp_in _ _) _ ?_ ?_); (· (first | with_reducible assumption | ((with_reducible refine t_vin ?_); decide) | ((with_reducible refine vp_in_nI ?_ ?_) <;> first | omega | decide) | (simp (disch := omega) only [xl_n, xl_m, nI_dec, nI_sb, nI_add, pk_mul]; (with_reducible refine vp_in_nI ?_ ?_) <;> first | omega | decide))); (conv => whnf))
        | (refine And.intro (by first | with_reducible assumption | exact (show tL _ = _ from rfl) | decide) ?_; (conv => whnf))
        | ((with_reducible refine @And.intro (_ = _) _ ?_ ?_); (· rfl); (conv => whnf))
        | ((with_reducible refine @And.intro (@LE.le Nat _ _ _) _ ?_ ?_); (· (first | exact Nat.zero_le _ | exact Nat.le_of_ble_eq_true rfl | omega)); (conv => whnf))
        | ((with_reducible refine @And.intro (@LT.lt Nat _ _ _) _ ?_ ?_); (· omega); (conv => whnf))
        | ((with_reducible refine @And.intro (∃ _, _ = _) _ ?_ ?_); (· exact ⟨_, rfl⟩); (conv => whnf))
        | ((with_reducible refine @And.intro (_ ∨ _) _ ?_ ?_); (· (first | exact Or.inl rfl | exact Or.inr rfl | exact t_b01 _ | assumption)); (conv => whnf))
        | ((with_reducible refine @And.intro (¬ (_ = _)) _ ?_ ?_); (· first | assumption | (with_reducible assumption)); (conv => whnf))
        | (refine hX _ _ _ _ _ _ ?_; (conv => whnf); fail_if_success show False)
        | (rw [t_si]; (conv => whnf))
        | (refine ⟨_, rfl, ?_⟩; (conv => whnf))
        | (refine ⟨_, _, rfl, ?_⟩; (conv => whnf))
        | (refine ⟨_, _, _, rfl, ?_⟩; (conv => whnf))
        | (refine ⟨_, _, _, _, rfl, ?_⟩; (conv => whnf))
        | (refine And.intro (fun c => ?_) (fun c => ?_) <;> (first | (exact absurd c (by decide +kernel)) | (conv => whnf)))
        | fail)
      exact fin
    have x203 : ∀ M o1 o2, Q none (tW M) → X 203 [some (.ref 0), o1, o2] [] (tW M) 0 0 := by
      clear hQ x72 x140
      intro M o1 o2 h
      refine hG _ _ _ _ _ _ ?_
      (conv => whnf)
      repeat' (first
        | ((with_reducible refine @And.intro (vp_in _ _) _ ?_ ?_); (· (first | with_reducible assumption | ((with_reducible refine t_vin ?_); decide) | ((with_reducible refine vp_in_nI ?_ ?_) <;> first | omega | decide) | (simp (disch := omega) only [xl_n, xl_m, nI_dec, nI_sb, nI_add, pk_mul]; (with_reducible refine vp_in_nI ?_ ?_) <;> first | omega | decide))); (conv => whnf))
        | (refine And.intro (by first | with_reducible assumption | exact (show tL _ = _ from rfl) | decide) ?_; (conv => whnf))
        | ((with_reducible refine @And.intro (_ = _) _ ?_ ?_); (· rfl); (conv => whnf))
        | ((with_reducible refine @And.intro (@LE.le Nat _ _ _) _ ?_ ?_); (· (first | exact Nat.zero_le _ | exact Nat.le_of_ble_eq_true rfl | omega)); (conv => whnf))
        | ((with_reducible refine @And.intro (@LT.lt Nat _ _ _) _ ?_ ?_); (· omega); (conv => whnf))
        | ((with_reducible refine @And.intro (∃ _, _ = _) _ ?_ ?_); (· exact ⟨_, rfl⟩); (conv => whnf))
        | ((with_reducible refine @And.intro (_ ∨ _) _ ?_ ?_); (· (first | exact Or.inl rfl | exact Or.inr rfl | exact t_b01 _ | assumption)); (conv => whnf))
        | ((with_reducible refine @And.intro (¬ (_ = _)) _ ?_ ?_); (· first | assumption | (with_reducible assumption)); (conv => whnf))
        | (refine hX _ _ _ _ _ _ ?_; (conv => whnf); fail_if_success show False)
        | (rw [t_si]; (conv => whnf))
        | (refine ⟨_, rfl, ?_⟩; (conv => whnf))
        | (refine ⟨_, _, rfl, ?_⟩; (conv => whnf))
        | (refine ⟨_, _, _, rfl, ?_⟩; (conv => whnf))
        | (refine ⟨_, _, _, _, rfl, ?_⟩; (conv => whnf))
        | (refine And.intro (fun c => ?_) (fun c => ?_) <;> (first | (exact absurd c (by decide +kernel)) | (conv => whnf)))
        | fail)
      exact h
    have eW : xm_u2 W 0 4 (nI b) = W := xm_u2_id w4
    have lpW : t_lp I W n d c0 (.inr ([], b)) := ⟨⟨w5, w4, hb2⟩, w8, by rw [w28]; rfl, hcb, fun j _ => wr j, fun j x hx => by simp at hx⟩
    have fails : ∀ M, M = xm_u2 (xm_u2 W 0 5 (nI 3)) 0 6 (W 0 4) → t_lf I M ∧ t_lp I M n d c0 (.inl (nI 3, b)) := by
      intro M hM
      subst hM
      refine ⟨(wl.tr (t_lf.u0 (by omega))).tr (t_lf.u0 (by omega)), by rw [xm_u2_at, if_neg (by decide), xm_u2_at, if_pos rfl], by decide +kernel, by rw [xm_u2_at, if_pos rfl]; exact w4, b, hb2, ?_⟩
      rw [xm_u2_at, if_neg (by decide), xm_u2_at, if_neg (by decide)]
      exact w4
    have opened : ∀ d', d = d' + 1 → t_lf I (xm_u2 W 0 8 (nI (6 - d + 1))) ∧ t_lp I (xm_u2 W 0 8 (nI (6 - d + 1))) n d' c0 (.inr ([], b)) := fun d' hd => ⟨wl.tr (t_lf.u0 (by omega)), lpW.op fun L k h => by rw [show 6 - d + 1 = 6 - d' by omega]⟩
    have x171 : (∀ J, t_lf I J → t_lp I J n d c0 (if p_kno (p_ls f n b) = nM then p_bd (p_number f n (nI 0) (nI 999) b) fun v k => .inr ([(nI 0, v)], k) else .inr ([(nI 1, p_kno (p_ls f n b))], p_le f n b)) → Q none (tW J)) → ∀ z1, X 171 [some (.ref 0), some (.int z1), none] [] (tW W) 0 0 := by
      clear hQ x72 x140
      intro hQ z1
      rcases p_kno_c (p_ls f n b) with hk0 | ⟨⟨j, hj, hk0⟩, hl0⟩
      · rw [if_pos hk0] at hQ
        have e1 : (if p_kno (p_ls f n b) = nM then b else p_le f n b) = b := if_pos hk0
        have psW : t_ps W n (.inr b) := lpW.1
        have mm : nM = Int32.ofInt (-1) := by decide +kernel
        refine hG _ _ _ _ _ _ ?_
        (conv => whnf)
        repeat' (first
          | ((with_reducible refine @And.intro (vp_in _ _) _ ?_ ?_); (· (first | with_reducible assumption | ((with_reducible refine t_vin ?_); decide) | ((with_reducible refine vp_in_nI ?_ ?_) <;> first | omega | decide) | (simp (disch := omega) only [xl_n, xl_m, nI_dec, nI_sb, nI_add, pk_mul]; (with_reducible refine vp_in_nI ?_ ?_) <;> first | omega | decide))); (conv => whnf))
          | (refine And.intro (by first | with_reducible assumption | exact (show tL _ = _ from rfl) | decide) ?_; (conv => whnf))
          | ((with_reducible refine @And.intro (_ = _) _ ?_ ?_); (· rfl); (conv => whnf))
          | ((with_reducible refine @And.intro (@LE.le Nat _ _ _) _ ?_ ?_); (· (first | exact Nat.zero_le _ | exact Nat.le_of_ble_eq_true rfl | omega)); (conv => whnf))
          | ((with_reducible refine @And.intro (@LT.lt Nat _ _ _) _ ?_ ?_); (· omega); (conv => whnf))
          | ((with_reducible refine @And.intro (∃ _, _ = _) _ ?_ ?_); (· exact ⟨_, rfl⟩); (conv => whnf))
          | ((with_reducible refine @And.intro (_ ∨ _) _ ?_ ?_); (· (first | exact Or.inl rfl | exact Or.inr rfl | exact t_b01 _ | assumption)); (conv => whnf))
          | ((with_reducible refine @And.intro (¬ (_ = _)) _ ?_ ?_); (· first | assumption | (with_reducible assumption)); (conv => whnf))
          | (refine hX _ _ _ _ _ _ ?_; (conv => whnf); fail_if_success show False)
          | (rw [t_si]; (conv => whnf))
          | (refine ⟨_, rfl, ?_⟩; (conv => whnf))
          | (refine ⟨_, _, rfl, ?_⟩; (conv => whnf))
          | (refine ⟨_, _, _, rfl, ?_⟩; (conv => whnf))
          | (refine ⟨_, _, _, _, rfl, ?_⟩; (conv => whnf))
          | (rw [hbb]; (conv => whnf))
          | (rw [e1]; (conv => whnf))
          | (rw [eW]; (conv => whnf))
          | (rw [hk0]; (conv => whnf))
          | (refine ⟨_, _, (by with_reducible assumption), ?_⟩; (conv => whnf))
          | (refine ⟨_, (by first | with_reducible assumption | exact rfl), ?_⟩; (conv => whnf))
          | (refine And.intro (fun c => ?_) (fun c => ?_) <;> (first | (exact absurd c (by decide +kernel)) | (exact absurd c (by assumption)) | (exact False.elim (c (by assumption))) | (conv => whnf)))
          | fail)
        intro J hJ hps
        (conv => whnf)
        have hlf := wl.tr hJ.l
        have hps : t_ps J n (p_st (p_number f n (nI 0) (nI 999) b)) := hps
        have ev : p_v (p_go (.inr b) (p_number f n (Int32.ofInt 0) (Int32.ofInt 999))) = p_v (p_number f n (nI 0) (nI 999) b) := rfl
        cases hq : p_number f n (nI 0) (nI 999) b with
        | inl e =>
          rw [hq] at hps hQ
          have hps : t_ps J n (.inl e) := hps
          have h5 : ¬ J 0 5 = nI 0 := by rw [hps.1]; exact hps.2.1
          repeat' (first
            | ((with_reducible refine @And.intro (vp_in _ _) _ ?_ ?_); (· (first | with_reducible assumption | ((with_reducible refine t_vin ?_); decide) | ((with_reducible refine vp_in_nI ?_ ?_) <;> first | omega | decide) | (simp (disch := omega) only [xl_n, xl_m, nI_dec, nI_sb, nI_add, pk_mul]; (with_reducible refine vp_in_nI ?_ ?_) <;> first | omega | decide))); (conv => whnf))
            | (refine And.intro (by first | with_reducible assumption | exact (show tL _ = _ from rfl) | decide) ?_; (conv => whnf))
            | ((with_reducible refine @And.intro (_ = _) _ ?_ ?_); (· rfl); (conv => whnf))
            | ((with_reducible refine @And.intro (@LE.le Nat _ _ _) _ ?_ ?_); (· (first | exact Nat.zero_le _ | exact Nat.le_of_ble_eq_true rfl | omega)); (conv => whnf))
            | ((with_reducible refine @And.intro (@LT.lt Nat _ _ _) _ ?_ ?_); (· omega); (conv => whnf))
            | ((with_reducible refine @And.intro (∃ _, _ = _) _ ?_ ?_); (· exact ⟨_, rfl⟩); (conv => whnf))
            | ((with_reducible refine @And.intro (_ ∨ _) _ ?_ ?_); (· (first | exact Or.inl rfl | exact Or.inr rfl | exact t_b01 _ | assumption)); (conv => whnf))
            | ((with_reducible refine @And.intro (¬ (_ = _)) _ ?_ ?_); (· first | assumption | (with_reducible assumption)); (conv => whnf))
            | (refine hX _ _ _ _ _ _ ?_; (conv => whnf); fail_if_success show False)
            | (rw [t_si]; (conv => whnf))
            | (refine ⟨_, rfl, ?_⟩; (conv => whnf))
            | (refine ⟨_, _, rfl, ?_⟩; (conv => whnf))
            | (refine ⟨_, _, _, rfl, ?_⟩; (conv => whnf))
            | (refine ⟨_, _, _, _, rfl, ?_⟩; (conv => whnf))
            | (refine And.intro (fun c => ?_) (fun c => ?_) <;> (first | (exact absurd c (by decide +kernel)) | (exact absurd c (by assumption)) | (exact False.elim (c (by assumption))) | (conv => whnf)))
            | fail)
          exact x203 J _ _ (hQ J hlf hps)
        | inr e =>
          obtain ⟨v, k2⟩ := e
          rw [hq] at hps hQ ev
          have hps : t_ps J n (.inr k2) := hps
          have hk2 := p_number_1 hb2 hq
          have lpJ := lpW.pf0 hJ hps (by omega)
          have lp6 := lpJ.note (z := nI 0) (v := v) (by simp; omega)
          have lf6 : t_lf I (xm_u2 (xm_u2 (xm_u2 J (400 + (c0 + ([] : List lC).length)) 0 (nI 0)) (400 + (c0 + ([] : List lC).length)) 1 v) 0 28 (nI (c0 + ([] : List lC).length + 1))) := ((hlf.tr (t_lf.u (by simp; omega))).tr (t_lf.u (by simp; omega))).tr (t_lf.u0 (by omega))
          have h5 := hps.1
          have h28 := lpJ.2.2.1
          have hc160 : c0 + ([] : List lC).length < 160 := by simp; omega
          have fin := x203 _ (some (.int z1)) (some (.int nM)) (hQ _ lf6 lp6)
          repeat' (first
            | (refine ⟨_,(by assumption),(by assumption),?_⟩; (conv => whnf))
            | ((with_reducible refine @And.intro (vp_in _ _) _ ?_ ?_); (· (first | with_reducible assumption | ((with_reducible refine t_vin ?_); decide) | ((with_reducible refine vp_in_nI ?_ ?_) <;> first | omega | decide) | (simp (disch := omega) only [xl_n, xl_m, nI_dec, nI_sb, nI_add, pk_mul]; (with_reducible refine vp_in_nI ?_ ?_) <;> first | omega | decide))); (conv => whnf))
            | (refine And.intro (by first | with_reducible assumption | exact (show tL _ = _ from rfl) | decide) ?_; (conv => whnf))
            | ((with_reducible refine @And.intro (_ = _) _ ?_ ?_); (· rfl); (conv => whnf))
            | ((with_reducible refine @And.intro (@LE.le Nat _ _ _) _ ?_ ?_); (· (first | exact Nat.zero_le _ | exact Nat.le_of_ble_eq_true rfl | omega)); (conv => whnf))
            | ((with_reducible refine @And.intro (@LT.lt Nat _ _ _) _ ?_ ?_); (· omega); (conv => whnf))
            | ((with_reducible refine @And.intro (∃ _, _ = _) _ ?_ ?_); (· exact ⟨_, rfl⟩); (conv => whnf))
            | ((with_reducible refine @And.intro (_ ∨ _) _ ?_ ?_); (· (first | exact Or.inl rfl | exact Or.inr rfl | exact t_b01 _ | assumption)); (conv => whnf))
            | ((with_reducible refine @And.intro (¬ (_ = _)) _ ?_ ?_); (· first | assumption | (with_reducible assumption)); (conv => whnf))
            | (refine hX _ _ _ _ _ _ ?_; (conv => whnf); fail_if_success show False)
            | (rw [t_si]; (conv => whnf))
            | (refine ⟨_, rfl, ?_⟩; (conv => whnf))
            | (refine ⟨_, _, rfl, ?_⟩; (conv => whnf))
            | (refine ⟨_, _, _, rfl, ?_⟩; (conv => whnf))
            | (refine ⟨_, _, _, _, rfl, ?_⟩; (conv => whnf))
            | (rw [ev]; (conv => whnf))
            | (refine And.intro (fun c => ?_) (fun c => ?_) <;> (first | (exact absurd c (by decide +kernel)) | (exact absurd c (by assumption)) | (exact False.elim (c (by assumption))) | (conv => whnf)))
            | fail)
          exact fin
      · rw [if_neg (by rw [hk0]; exact nM_ne (by omega)), hk0] at hQ
        have e1 : (if p_kno (p_ls f n b) = nM then b else p_le f n b) = p_le f n b := if_neg (by rw [hk0]; exact nM_ne (by omega))
        rw [p_ls_n] at hl0
        have hl := p_le_in (f := f) hb2
        have hW2 : t_pf W (xm_u2 W 0 4 (nI (p_le f n b))) := t_pf.u (Or.inl rfl)
        have lpJ := lpW.pf0 (k' := p_le f n b) hW2 ⟨by rw [xm_u2_at, if_neg (by decide)]; exact w5, by rw [xm_u2_at, if_pos rfl], hl.2⟩ hl.1
        have lp6 := lpJ.note (z := nI 1) (v := nI j) (by simp; omega)
        have lf6 : t_lf I (xm_u2 (xm_u2 (xm_u2 (xm_u2 W 0 4 (nI (p_le f n b))) (400 + (c0 + ([] : List lC).length)) 0 (nI 1)) (400 + (c0 + ([] : List lC).length)) 1 (nI j)) 0 28 (nI (c0 + ([] : List lC).length + 1))) := (((wl.tr hW2.l).tr (t_lf.u (by simp; omega))).tr (t_lf.u (by simp; omega))).tr (t_lf.u0 (by omega))
        have h5 := lpJ.1.1
        have h28 := lpJ.2.2.1
        have hc160 : c0 + ([] : List lC).length < 160 := by simp; omega
        have hne : ¬ nI j = Int32.ofInt (-1) := nM_ne (by omega)
        have fin := x203 _ (some (.int z1)) (some (.int (nI j))) (hQ _ lf6 lp6)
        refine hG _ _ _ _ _ _ ?_
        (conv => whnf)
        repeat' (first
          | (refine ⟨_,(by assumption),(by assumption),?_⟩; (conv => whnf))
          | ((with_reducible refine @And.intro (vp_in _ _) _ ?_ ?_); (· (first | with_reducible assumption | ((with_reducible refine t_vin ?_); decide) | ((with_reducible refine vp_in_nI ?_ ?_) <;> first | omega | decide) | (simp (disch := omega) only [xl_n, xl_m, nI_dec, nI_sb, nI_add, pk_mul]; (with_reducible refine vp_in_nI ?_ ?_) <;> first | omega | decide))); (conv => whnf))
          | (refine And.intro (by first | with_reducible assumption | exact (show tL _ = _ from rfl) | decide) ?_; (conv => whnf))
          | ((with_reducible refine @And.intro (_ = _) _ ?_ ?_); (· rfl); (conv => whnf))
          | ((with_reducible refine @And.intro (@LE.le Nat _ _ _) _ ?_ ?_); (· (first | exact Nat.zero_le _ | exact Nat.le_of_ble_eq_true rfl | omega)); (conv => whnf))
          | ((with_reducible refine @And.intro (@LT.lt Nat _ _ _) _ ?_ ?_); (· omega); (conv => whnf))
          | ((with_reducible refine @And.intro (∃ _, _ = _) _ ?_ ?_); (· exact ⟨_, rfl⟩); (conv => whnf))
          | ((with_reducible refine @And.intro (_ ∨ _) _ ?_ ?_); (· (first | exact Or.inl rfl | exact Or.inr rfl | exact t_b01 _ | assumption)); (conv => whnf))
          | ((with_reducible refine @And.intro (¬ (_ = _)) _ ?_ ?_); (· first | assumption | (with_reducible assumption)); (conv => whnf))
          | (refine hX _ _ _ _ _ _ ?_; (conv => whnf); fail_if_success show False)
          | (rw [t_si]; (conv => whnf))
          | (refine ⟨_, rfl, ?_⟩; (conv => whnf))
          | (refine ⟨_, _, rfl, ?_⟩; (conv => whnf))
          | (refine ⟨_, _, _, rfl, ?_⟩; (conv => whnf))
          | (refine ⟨_, _, _, _, rfl, ?_⟩; (conv => whnf))
          | (rw [hbb]; (conv => whnf))
          | (rw [e1]; (conv => whnf))
          | (rw [hk0]; (conv => whnf))
          | (refine ⟨_, _, (by with_reducible assumption), ?_⟩; (conv => whnf))
          | (refine ⟨_, (by first | with_reducible assumption | exact rfl), ?_⟩; (conv => whnf))
          | (refine And.intro (fun c => ?_) (fun c => ?_) <;> (first | (exact absurd c (by decide +kernel)) | (exact absurd c (by assumption)) | (exact False.elim (c (by assumption))) | (conv => whnf)))
          | fail)
        exact fin
    have x119 : (∀ J, t_lf I J → t_lp I J n d c0 (if p_at f n b = nI 40 then p_par f n (p_sm f n d) b else if p_kno (p_ls f n b) = nM then p_bd (p_number f n (nI 0) (nI 999) b) fun v k => .inr ([(nI 0, v)], k) else .inr ([(nI 1, p_kno (p_ls f n b))], p_le f n b)) → Q none (tW J)) → ∀ z1, X 119 [some (.ref 0), some (.int z1), none] [] (tW W) 0 0 := by
      clear hQ x72
      intro hQ z1
      have e4 : xm_fld (tW W) 0 4 0 = .int (nI b) := by show Value.int (W 0 4) = _; rw [w4]
      have hb2k : b < 2000 := by omega
      by_cases hat : p_at f n b = nI 40
      · rw [if_pos hat] at hQ
        obtain rfl | ⟨d', rfl⟩ : d = 0 ∨ ∃ d', d = d' + 1 := by
          cases d with
          | zero => exact Or.inl rfl
          | succ d' => exact Or.inr ⟨d', rfl⟩
        · have w8 : W 0 8 = nI 6 := w8
          have fin := hQ _ (fails _ rfl).1 (fails _ rfl).2
          clear x140 x171
          refine hG _ _ _ _ _ _ ?_
          (conv => whnf)
          repeat' (first
            | (refine Or.inl ⟨(by assumption),?_⟩; (conv => whnf))
            | ((with_reducible refine @And.intro (vp_in _ _) _ ?_ ?_); (· (first | with_reducible assumption | ((with_reducible refine t_vin ?_); decide) | ((with_reducible refine vp_in_nI ?_ ?_) <;> first | omega | decide) | (simp (disch := omega) only [xl_n, xl_m, nI_dec, nI_sb, nI_add, pk_mul]; (with_reducible refine vp_in_nI ?_ ?_) <;> first | omega | decide))); (conv => whnf))
            | (refine And.intro (by first | with_reducible assumption | exact (show tL _ = _ from rfl) | decide) ?_; (conv => whnf))
            | ((with_reducible refine @And.intro (_ = _) _ ?_ ?_); (· rfl); (conv => whnf))
            | ((with_reducible refine @And.intro (@LE.le Nat _ _ _) _ ?_ ?_); (· (first | exact Nat.zero_le _ | exact Nat.le_of_ble_eq_true rfl | omega)); (conv => whnf))
            | ((with_reducible refine @And.intro (@LT.lt Nat _ _ _) _ ?_ ?_); (· omega); (conv => whnf))
            | ((with_reducible refine @And.intro (∃ _, _ = _) _ ?_ ?_); (· exact ⟨_, rfl⟩); (conv => whnf))
            | ((with_reducible refine @And.intro (_ ∨ _) _ ?_ ?_); (· (first | exact Or.inl rfl | exact Or.inr rfl | exact t_b01 _ | assumption)); (conv => whnf))
            | ((with_reducible refine @And.intro (¬ (_ = _)) _ ?_ ?_); (· first | assumption | (with_reducible assumption)); (conv => whnf))
            | (refine hX _ _ _ _ _ _ ?_; (conv => whnf); fail_if_success show False)
            | (rw [t_si]; (conv => whnf))
            | (refine ⟨_, rfl, ?_⟩; (conv => whnf))
            | (refine ⟨_, _, rfl, ?_⟩; (conv => whnf))
            | (refine ⟨_, _, _, rfl, ?_⟩; (conv => whnf))
            | (refine ⟨_, _, _, _, rfl, ?_⟩; (conv => whnf))
            | (rw [e4]; (conv => whnf))
            | (rw [hat]; (conv => whnf))
            | (refine ⟨_, _, (by with_reducible assumption), ?_⟩; (conv => whnf))
            | (refine ⟨_, (by first | with_reducible assumption | exact rfl), ?_⟩; (conv => whnf))
            | (refine And.intro (fun c => ?_) (fun c => ?_) <;> (first | (exact absurd c (by decide +kernel)) | (exact absurd c (by assumption)) | (exact False.elim (c (by assumption))) | (conv => whnf)))
            | fail)
          exact fin
        · have fin := x140 d' rfl _ (some (.int z1)) none hat (opened d' rfl).1 (opened d' rfl).2 hQ
          have ho6 : 6 - (d' + 1) < 6 := by omega
          clear x140 x171
          refine hG _ _ _ _ _ _ ?_
          (conv => whnf)
          repeat' (first
            | (refine Or.inr ⟨_,(by assumption),(by assumption),?_⟩; (conv => whnf))
            | ((with_reducible refine @And.intro (vp_in _ _) _ ?_ ?_); (· (first | with_reducible assumption | ((with_reducible refine t_vin ?_); decide) | ((with_reducible refine vp_in_nI ?_ ?_) <;> first | omega | decide) | (simp (disch := omega) only [xl_n, xl_m, nI_dec, nI_sb, nI_add, pk_mul]; (with_reducible refine vp_in_nI ?_ ?_) <;> first | omega | decide))); (conv => whnf))
            | (refine And.intro (by first | with_reducible assumption | exact (show tL _ = _ from rfl) | decide) ?_; (conv => whnf))
            | ((with_reducible refine @And.intro (_ = _) _ ?_ ?_); (· rfl); (conv => whnf))
            | ((with_reducible refine @And.intro (@LE.le Nat _ _ _) _ ?_ ?_); (· (first | exact Nat.zero_le _ | exact Nat.le_of_ble_eq_true rfl | omega)); (conv => whnf))
            | ((with_reducible refine @And.intro (@LT.lt Nat _ _ _) _ ?_ ?_); (· omega); (conv => whnf))
            | ((with_reducible refine @And.intro (∃ _, _ = _) _ ?_ ?_); (· exact ⟨_, rfl⟩); (conv => whnf))
            | ((with_reducible refine @And.intro (_ ∨ _) _ ?_ ?_); (· (first | exact Or.inl rfl | exact Or.inr rfl | exact t_b01 _ | assumption)); (conv => whnf))
            | ((with_reducible refine @And.intro (¬ (_ = _)) _ ?_ ?_); (· first | assumption | (with_reducible assumption)); (conv => whnf))
            | (refine hX _ _ _ _ _ _ ?_; (conv => whnf); fail_if_success show False)
            | (rw [t_si]; (conv => whnf))
            | (refine ⟨_, rfl, ?_⟩; (conv => whnf))
            | (refine ⟨_, _, rfl, ?_⟩; (conv => whnf))
            | (refine ⟨_, _, _, rfl, ?_⟩; (conv => whnf))
            | (refine ⟨_, _, _, _, rfl, ?_⟩; (conv => whnf))
            | (rw [e4]; (conv => whnf))
            | (rw [hat]; (conv => whnf))
            | (refine ⟨_, _, (by with_reducible assumption), ?_⟩; (conv => whnf))
            | (refine ⟨_, (by first | with_reducible assumption | exact rfl), ?_⟩; (conv => whnf))
            | (refine And.intro (fun c => ?_) (fun c => ?_) <;> (first | (exact absurd c (by decide +kernel)) | (exact absurd c (by assumption)) | (exact False.elim (c (by assumption))) | (conv => whnf)))
            | fail)
          exact fin
      · rw [if_neg hat] at hQ
        have fin := x171 hQ z1
        have hat' : ¬ p_at f n b = Int32.ofInt 40 := hat
        clear x140 x171
        refine hG _ _ _ _ _ _ ?_
        (conv => whnf)
        repeat' (first
          | ((with_reducible refine @And.intro (vp_in _ _) _ ?_ ?_); (· (first | with_reducible assumption | ((with_reducible refine t_vin ?_); decide) | ((with_reducible refine vp_in_nI ?_ ?_) <;> first | omega | decide) | (simp (disch := omega) only [xl_n, xl_m, nI_dec, nI_sb, nI_add, pk_mul]; (with_reducible refine vp_in_nI ?_ ?_) <;> first | omega | decide))); (conv => whnf))
          | (refine And.intro (by first | with_reducible assumption | exact (show tL _ = _ from rfl) | decide) ?_; (conv => whnf))
          | ((with_reducible refine @And.intro (_ = _) _ ?_ ?_); (· rfl); (conv => whnf))
          | ((with_reducible refine @And.intro (@LE.le Nat _ _ _) _ ?_ ?_); (· (first | exact Nat.zero_le _ | exact Nat.le_of_ble_eq_true rfl | omega)); (conv => whnf))
          | ((with_reducible refine @And.intro (@LT.lt Nat _ _ _) _ ?_ ?_); (· omega); (conv => whnf))
          | ((with_reducible refine @And.intro (∃ _, _ = _) _ ?_ ?_); (· exact ⟨_, rfl⟩); (conv => whnf))
          | ((with_reducible refine @And.intro (_ ∨ _) _ ?_ ?_); (· (first | exact Or.inl rfl | exact Or.inr rfl | exact t_b01 _ | assumption)); (conv => whnf))
          | ((with_reducible refine @And.intro (¬ (_ = _)) _ ?_ ?_); (· first | assumption | (with_reducible assumption)); (conv => whnf))
          | (refine hX _ _ _ _ _ _ ?_; (conv => whnf); fail_if_success show False)
          | (rw [t_si]; (conv => whnf))
          | (refine ⟨_, rfl, ?_⟩; (conv => whnf))
          | (refine ⟨_, _, rfl, ?_⟩; (conv => whnf))
          | (refine ⟨_, _, _, rfl, ?_⟩; (conv => whnf))
          | (refine ⟨_, _, _, _, rfl, ?_⟩; (conv => whnf))
          | (rw [e4]; (conv => whnf))
          | (refine ⟨_, _, (by with_reducible assumption), ?_⟩; (conv => whnf))
          | (refine ⟨_, (by first | with_reducible assumption | exact rfl), ?_⟩; (conv => whnf))
          | (refine And.intro (fun c => ?_) (fun c => ?_) <;> (first | (exact absurd c (by decide +kernel)) | (exact absurd c (by assumption)) | (exact False.elim (c (by assumption))) | (conv => whnf)))
          | fail)
        exact fin
    have h5' : I 0 5 = 0 := h5.trans nI_0
    have two : ∀ z, (z = 7 ∨ z = 8) → (∀ J, t_lf I J → t_lp I J n d c0 (p_two f n (p_sm f n d) (nI z) b) → Q none (tW J)) → X 58 [some (.ref 0), none, none] [.int (nI z)] (tW W) 0 0 := by
      clear hQ x140 x171 x119
      intro z hz hQ
      have hne : ¬ nI z = Int32.ofInt (-1) := nM_ne (by omega)
      obtain rfl | ⟨d', rfl⟩ : d = 0 ∨ ∃ d', d = d' + 1 := by
        cases d with
        | zero => exact Or.inl rfl
        | succ d' => exact Or.inr ⟨d', rfl⟩
      · have w8 : W 0 8 = nI 6 := w8
        have fin := hQ _ (fails _ rfl).1 (fails _ rfl).2
        clear x72
        refine hG _ _ _ _ _ _ ?_
        (conv => whnf)
        repeat' (first
          | (refine Or.inl ⟨(by assumption),?_⟩; (conv => whnf))
          | ((with_reducible refine @And.intro (vp_in _ _) _ ?_ ?_); (· (first | with_reducible assumption | ((with_reducible refine t_vin ?_); decide) | ((with_reducible refine vp_in_nI ?_ ?_) <;> first | omega | decide) | (simp (disch := omega) only [xl_n, xl_m, nI_dec, nI_sb, nI_add, pk_mul]; (with_reducible refine vp_in_nI ?_ ?_) <;> first | omega | decide))); (conv => whnf))
          | (refine And.intro (by first | with_reducible assumption | exact (show tL _ = _ from rfl) | decide) ?_; (conv => whnf))
          | ((with_reducible refine @And.intro (_ = _) _ ?_ ?_); (· rfl); (conv => whnf))
          | ((with_reducible refine @And.intro (@LE.le Nat _ _ _) _ ?_ ?_); (· (first | exact Nat.zero_le _ | exact Nat.le_of_ble_eq_true rfl | omega)); (conv => whnf))
          | ((with_reducible refine @And.intro (@LT.lt Nat _ _ _) _ ?_ ?_); (· omega); (conv => whnf))
          | ((with_reducible refine @And.intro (∃ _, _ = _) _ ?_ ?_); (· exact ⟨_, rfl⟩); (conv => whnf))
          | ((with_reducible refine @And.intro (_ ∨ _) _ ?_ ?_); (· (first | exact Or.inl rfl | exact Or.inr rfl | exact t_b01 _ | assumption)); (conv => whnf))
          | ((with_reducible refine @And.intro (¬ (_ = _)) _ ?_ ?_); (· first | assumption | (with_reducible assumption)); (conv => whnf))
          | (refine hX _ _ _ _ _ _ ?_; (conv => whnf); fail_if_success show False)
          | (rw [t_si]; (conv => whnf))
          | (refine ⟨_, rfl, ?_⟩; (conv => whnf))
          | (refine ⟨_, _, rfl, ?_⟩; (conv => whnf))
          | (refine ⟨_, _, _, rfl, ?_⟩; (conv => whnf))
          | (refine ⟨_, _, _, _, rfl, ?_⟩; (conv => whnf))
          | (refine ⟨_, _, (by with_reducible assumption), ?_⟩; (conv => whnf))
          | (refine ⟨_, (by first | with_reducible assumption | exact rfl), ?_⟩; (conv => whnf))
          | (refine And.intro (fun c => ?_) (fun c => ?_) <;> (first | (exact absurd c (by decide +kernel)) | (exact absurd c (by assumption)) | (exact False.elim (c (by assumption))) | (conv => whnf)))
          | fail)
        exact fin
      · have fin := x72 d' rfl z _ none (opened d' rfl).1 (opened d' rfl).2 hQ
        have ho6 : 6 - (d' + 1) < 6 := by omega
        clear x72
        refine hG _ _ _ _ _ _ ?_
        (conv => whnf)
        repeat' (first
          | (refine Or.inr ⟨_,(by assumption),(by assumption),?_⟩; (conv => whnf))
          | ((with_reducible refine @And.intro (vp_in _ _) _ ?_ ?_); (· (first | with_reducible assumption | ((with_reducible refine t_vin ?_); decide) | ((with_reducible refine vp_in_nI ?_ ?_) <;> first | omega | decide) | (simp (disch := omega) only [xl_n, xl_m, nI_dec, nI_sb, nI_add, pk_mul]; (with_reducible refine vp_in_nI ?_ ?_) <;> first | omega | decide))); (conv => whnf))
          | (refine And.intro (by first | with_reducible assumption | exact (show tL _ = _ from rfl) | decide) ?_; (conv => whnf))
          | ((with_reducible refine @And.intro (_ = _) _ ?_ ?_); (· rfl); (conv => whnf))
          | ((with_reducible refine @And.intro (@LE.le Nat _ _ _) _ ?_ ?_); (· (first | exact Nat.zero_le _ | exact Nat.le_of_ble_eq_true rfl | omega)); (conv => whnf))
          | ((with_reducible refine @And.intro (@LT.lt Nat _ _ _) _ ?_ ?_); (· omega); (conv => whnf))
          | ((with_reducible refine @And.intro (∃ _, _ = _) _ ?_ ?_); (· exact ⟨_, rfl⟩); (conv => whnf))
          | ((with_reducible refine @And.intro (_ ∨ _) _ ?_ ?_); (· (first | exact Or.inl rfl | exact Or.inr rfl | exact t_b01 _ | assumption)); (conv => whnf))
          | ((with_reducible refine @And.intro (¬ (_ = _)) _ ?_ ?_); (· first | assumption | (with_reducible assumption)); (conv => whnf))
          | (refine hX _ _ _ _ _ _ ?_; (conv => whnf); fail_if_success show False)
          | (rw [t_si]; (conv => whnf))
          | (refine ⟨_, rfl, ?_⟩; (conv => whnf))
          | (refine ⟨_, _, rfl, ?_⟩; (conv => whnf))
          | (refine ⟨_, _, _, rfl, ?_⟩; (conv => whnf))
          | (refine ⟨_, _, _, _, rfl, ?_⟩; (conv => whnf))
          | (refine ⟨_, _, (by with_reducible assumption), ?_⟩; (conv => whnf))
          | (refine ⟨_, (by first | with_reducible assumption | exact rfl), ?_⟩; (conv => whnf))
          | (refine And.intro (fun c => ?_) (fun c => ?_) <;> (first | (exact absurd c (by decide +kernel)) | (exact absurd c (by assumption)) | (exact False.elim (c (by assumption))) | (conv => whnf)))
          | fail)
        exact fin
    have none58 : X 119 [some (.ref 0), some (.int (Int32.ofInt (-1))), none] [] (tW W) 0 0 → X 58 [some (.ref 0), none, none] [.int (Int32.ofInt (-1))] (tW W) 0 0 := by
      clear hQ x140 x171 x119 x72 two
      intro fin
      refine hG _ _ _ _ _ _ ?_
      (conv => whnf)
      repeat' (first
        | ((with_reducible refine @And.intro (vp_in _ _) _ ?_ ?_); (· (first | with_reducible assumption | ((with_reducible refine t_vin ?_); decide) | ((with_reducible refine vp_in_nI ?_ ?_) <;> first | omega | decide) | (simp (disch := omega) only [xl_n, xl_m, nI_dec, nI_sb, nI_add, pk_mul]; (with_reducible refine vp_in_nI ?_ ?_) <;> first | omega | decide))); (conv => whnf))
        | (refine And.intro (by first | with_reducible assumption | exact (show tL _ = _ from rfl) | decide) ?_; (conv => whnf))
        | ((with_reducible refine @And.intro (_ = _) _ ?_ ?_); (· rfl); (conv => whnf))
        | ((with_reducible refine @And.intro (@LE.le Nat _ _ _) _ ?_ ?_); (· (first | exact Nat.zero_le _ | exact Nat.le_of_ble_eq_true rfl | omega)); (conv => whnf))
        | ((with_reducible refine @And.intro (@LT.lt Nat _ _ _) _ ?_ ?_); (· omega); (conv => whnf))
        | ((with_reducible refine @And.intro (∃ _, _ = _) _ ?_ ?_); (· exact ⟨_, rfl⟩); (conv => whnf))
        | ((with_reducible refine @And.intro (_ ∨ _) _ ?_ ?_); (· (first | exact Or.inl rfl | exact Or.inr rfl | exact t_b01 _ | assumption)); (conv => whnf))
        | ((with_reducible refine @And.intro (¬ (_ = _)) _ ?_ ?_); (· first | assumption | (with_reducible assumption)); (conv => whnf))
        | (refine hX _ _ _ _ _ _ ?_; (conv => whnf); fail_if_success show False)
        | (rw [t_si]; (conv => whnf))
        | (refine ⟨_, rfl, ?_⟩; (conv => whnf))
        | (refine ⟨_, _, rfl, ?_⟩; (conv => whnf))
        | (refine ⟨_, _, _, rfl, ?_⟩; (conv => whnf))
        | (refine ⟨_, _, _, _, rfl, ?_⟩; (conv => whnf))
        | (refine And.intro (fun c => ?_) (fun c => ?_) <;> (first | (exact absurd c (by decide +kernel)) | (exact absurd c (by assumption)) | (exact False.elim (c (by assumption))) | (conv => whnf)))
        | fail)
      exact fin
    by_cases hl1 : p_ls f n b = p_wi 12 5 1 19 20 0 0
    · rw [if_pos hl1] at hQ
      have fin := two 7 (by omega) hQ
      unfold p_wi at hl1
      have ed := decide_eq_true hl1
      clear x72 x140 x171 x119 two none58
      repeat' (first
        | ((with_reducible refine @And.intro (vp_in _ _) _ ?_ ?_); (· (first | with_reducible assumption | ((with_reducible refine t_vin ?_); decide) | ((with_reducible refine vp_in_nI ?_ ?_) <;> first | omega | decide) | (simp (disch := omega) only [xl_n, xl_m, nI_dec, nI_sb, nI_add, pk_mul]; (with_reducible refine vp_in_nI ?_ ?_) <;> first | omega | decide))); (conv => whnf))
        | (refine And.intro (by first | with_reducible assumption | exact (show tL _ = _ from rfl) | decide) ?_; (conv => whnf))
        | ((with_reducible refine @And.intro (_ = _) _ ?_ ?_); (· rfl); (conv => whnf))
        | ((with_reducible refine @And.intro (@LE.le Nat _ _ _) _ ?_ ?_); (· (first | exact Nat.zero_le _ | exact Nat.le_of_ble_eq_true rfl | omega)); (conv => whnf))
        | ((with_reducible refine @And.intro (@LT.lt Nat _ _ _) _ ?_ ?_); (· omega); (conv => whnf))
        | ((with_reducible refine @And.intro (∃ _, _ = _) _ ?_ ?_); (· exact ⟨_, rfl⟩); (conv => whnf))
        | ((with_reducible refine @And.intro (_ ∨ _) _ ?_ ?_); (· (first | exact Or.inl rfl | exact Or.inr rfl | exact t_b01 _ | assumption)); (conv => whnf))
        | ((with_reducible refine @And.intro (¬ (_ = _)) _ ?_ ?_); (· first | assumption | (with_reducible assumption)); (conv => whnf))
        | (refine hX _ _ _ _ _ _ ?_; (conv => whnf); fail_if_success show False)
        | (rw [t_si]; (conv => whnf))
        | (refine ⟨_, rfl, ?_⟩; (conv => whnf))
        | (refine ⟨_, _, rfl, ?_⟩; (conv => whnf))
        | (refine ⟨_, _, _, rfl, ?_⟩; (conv => whnf))
        | (refine ⟨_, _, _, _, rfl, ?_⟩; (conv => whnf))
        | (rw [hb]; (conv => whnf))
        | (rw [hbb]; (conv => whnf))
        | (rw [xm_u2_u2]; (conv => whnf))
        | (rw [←hWe]; (conv => whnf))
        | (rw [eW]; (conv => whnf))
        | (rw [ed]; (conv => whnf))
        | (refine ⟨_,_,_,_,_,_,_,rfl,p_kok_d (by decide +kernel),(by assumption),?_⟩; (conv => whnf))
        | (refine ⟨_, _, (by with_reducible assumption), ?_⟩; (conv => whnf))
        | (refine ⟨_, (by first | with_reducible assumption | exact rfl), ?_⟩; (conv => whnf))
        | (refine And.intro (fun c => ?_) (fun c => ?_) <;> (first | (exact absurd c (by decide +kernel)) | (exact absurd c (by assumption)) | (exact False.elim (c (by assumption))) | (conv => whnf)))
        | fail)
      exact fin
    · rw [if_neg hl1] at hQ
      unfold p_wi at hl1
      have ed := decide_eq_false hl1
      by_cases hl2 : p_ls f n b = p_wi 13 15 19 20 0 0 0
      · rw [if_pos hl2] at hQ
        have fin := two 8 (by omega) hQ
        unfold p_wi at hl2
        have ed2 := decide_eq_true hl2
        clear x72 x140 x171 x119 two none58
        repeat' (first
          | ((with_reducible refine @And.intro (vp_in _ _) _ ?_ ?_); (· (first | with_reducible assumption | ((with_reducible refine t_vin ?_); decide) | ((with_reducible refine vp_in_nI ?_ ?_) <;> first | omega | decide) | (simp (disch := omega) only [xl_n, xl_m, nI_dec, nI_sb, nI_add, pk_mul]; (with_reducible refine vp_in_nI ?_ ?_) <;> first | omega | decide))); (conv => whnf))
          | (refine And.intro (by first | with_reducible assumption | exact (show tL _ = _ from rfl) | decide) ?_; (conv => whnf))
          | ((with_reducible refine @And.intro (_ = _) _ ?_ ?_); (· rfl); (conv => whnf))
          | ((with_reducible refine @And.intro (@LE.le Nat _ _ _) _ ?_ ?_); (· (first | exact Nat.zero_le _ | exact Nat.le_of_ble_eq_true rfl | omega)); (conv => whnf))
          | ((with_reducible refine @And.intro (@LT.lt Nat _ _ _) _ ?_ ?_); (· omega); (conv => whnf))
          | ((with_reducible refine @And.intro (∃ _, _ = _) _ ?_ ?_); (· exact ⟨_, rfl⟩); (conv => whnf))
          | ((with_reducible refine @And.intro (_ ∨ _) _ ?_ ?_); (· (first | exact Or.inl rfl | exact Or.inr rfl | exact t_b01 _ | assumption)); (conv => whnf))
          | ((with_reducible refine @And.intro (¬ (_ = _)) _ ?_ ?_); (· first | assumption | (with_reducible assumption)); (conv => whnf))
          | (refine hX _ _ _ _ _ _ ?_; (conv => whnf); fail_if_success show False)
          | (rw [t_si]; (conv => whnf))
          | (refine ⟨_, rfl, ?_⟩; (conv => whnf))
          | (refine ⟨_, _, rfl, ?_⟩; (conv => whnf))
          | (refine ⟨_, _, _, rfl, ?_⟩; (conv => whnf))
          | (refine ⟨_, _, _, _, rfl, ?_⟩; (conv => whnf))
          | (rw [hb]; (conv => whnf))
          | (rw [hbb]; (conv => whnf))
          | (rw [xm_u2_u2]; (conv => whnf))
          | (rw [←hWe]; (conv => whnf))
          | (rw [eW]; (conv => whnf))
          | (rw [ed]; (conv => whnf))
          | (rw [ed2]; (conv => whnf))
          | (refine ⟨_,_,_,_,_,_,_,rfl,p_kok_d (by decide +kernel),(by assumption),?_⟩; (conv => whnf))
          | (refine ⟨_, _, (by with_reducible assumption), ?_⟩; (conv => whnf))
          | (refine ⟨_, (by first | with_reducible assumption | exact rfl), ?_⟩; (conv => whnf))
          | (refine And.intro (fun c => ?_) (fun c => ?_) <;> (first | (exact absurd c (by decide +kernel)) | (exact absurd c (by assumption)) | (exact False.elim (c (by assumption))) | (conv => whnf)))
          | fail)
        exact fin
      · rw [if_neg hl2] at hQ
        have fin := none58 (x119 hQ (Int32.ofInt (-1)))
        unfold p_wi at hl2
        have ed2 := decide_eq_false hl2
        clear x72 x140 x171 x119 two none58
        repeat' (first
          | ((with_reducible refine @And.intro (vp_in _ _) _ ?_ ?_); (· (first | with_reducible assumption | ((with_reducible refine t_vin ?_); decide) | ((with_reducible refine vp_in_nI ?_ ?_) <;> first | omega | decide) | (simp (disch := omega) only [xl_n, xl_m, nI_dec, nI_sb, nI_add, pk_mul]; (with_reducible refine vp_in_nI ?_ ?_) <;> first | omega | decide))); (conv => whnf))
          | (refine And.intro (by first | with_reducible assumption | exact (show tL _ = _ from rfl) | decide) ?_; (conv => whnf))
          | ((with_reducible refine @And.intro (_ = _) _ ?_ ?_); (· rfl); (conv => whnf))
          | ((with_reducible refine @And.intro (@LE.le Nat _ _ _) _ ?_ ?_); (· (first | exact Nat.zero_le _ | exact Nat.le_of_ble_eq_true rfl | omega)); (conv => whnf))
          | ((with_reducible refine @And.intro (@LT.lt Nat _ _ _) _ ?_ ?_); (· omega); (conv => whnf))
          | ((with_reducible refine @And.intro (∃ _, _ = _) _ ?_ ?_); (· exact ⟨_, rfl⟩); (conv => whnf))
          | ((with_reducible refine @And.intro (_ ∨ _) _ ?_ ?_); (· (first | exact Or.inl rfl | exact Or.inr rfl | exact t_b01 _ | assumption)); (conv => whnf))
          | ((with_reducible refine @And.intro (¬ (_ = _)) _ ?_ ?_); (· first | assumption | (with_reducible assumption)); (conv => whnf))
          | (refine hX _ _ _ _ _ _ ?_; (conv => whnf); fail_if_success show False)
          | (rw [t_si]; (conv => whnf))
          | (refine ⟨_, rfl, ?_⟩; (conv => whnf))
          | (refine ⟨_, _, rfl, ?_⟩; (conv => whnf))
          | (refine ⟨_, _, _, rfl, ?_⟩; (conv => whnf))
          | (refine ⟨_, _, _, _, rfl, ?_⟩; (conv => whnf))
          | (rw [hb]; (conv => whnf))
          | (rw [hbb]; (conv => whnf))
          | (rw [xm_u2_u2]; (conv => whnf))
          | (rw [←hWe]; (conv => whnf))
          | (rw [eW]; (conv => whnf))
          | (rw [ed]; (conv => whnf))
          | (rw [ed2]; (conv => whnf))
          | (refine ⟨_,_,_,_,_,_,_,rfl,p_kok_d (by decide +kernel),(by assumption),?_⟩; (conv => whnf))
          | (refine ⟨_, _, (by with_reducible assumption), ?_⟩; (conv => whnf))
          | (refine ⟨_, (by first | with_reducible assumption | exact rfl), ?_⟩; (conv => whnf))
          | (refine And.intro (fun c => ?_) (fun c => ?_) <;> (first | (exact absurd c (by decide +kernel)) | (exact absurd c (by assumption)) | (exact False.elim (c (by assumption))) | (conv => whnf)))
          | fail)
        · exact fin
theorem c1_X11_one {Iv : xI} (hI : xm_good Iv) (d : Nat) (ih : xm_Ct Iv yX11_sum (ws_ yX11_sum cX11_sum 2 none) (3 * d + 10) 0 0 (S_X11_sum d)) : xm_Ct Iv yX11_one (ws_ yX11_one cX11_one 3 none) (3 * d + 11) 0 0 (S_X11_one (d + 1)) := xm_enter (rt := 2) (init := false) (by decide +kernel) rfl (fun h => by cases h) (Or.inr (Or.inr (Or.inl ⟨rfl, rfl⟩))) (oX11_one hI d ih) (body_X11_one d)

/-! ===== the reference: the law's answer, whom a puppet chooses ===== -/
set_option maxRecDepth 100000
/-- scratch: roles, fields -/
def t_scr (b : Nat) : Prop := b = 34 ∨ b = 35
def t_scf (k : Nat) : Prop := k = 51 ∨ k = 52 ∨ k = 53
def t_sc (r : Nat) (I J : tI) : Prop := (∀ b, b ≠ r → b ≠ 0 → ¬ t_scr b → J b = I b) ∧ ∀ k, ¬ t_scf k → J 0 k = I 0 k
theorem t_sc.rf {r : Nat} {I : tI} : t_sc r I I := ⟨fun _ _ _ _ => rfl, fun _ _ => rfl⟩
theorem t_sc.tr {r : Nat} {I J L : tI} (h : t_sc r I J) (h2 : t_sc r J L) : t_sc r I L := ⟨fun b a c d => (h2.1 b a c d).trans (h.1 b a c d), fun k hk => (h2.2 k hk).trans (h.2 k hk)⟩
theorem t_off.sc {r : Nat} {I J : tI} (h : t_off r I J) (hr : r ≠ 0) : t_sc r I J := ⟨fun b a _ _ => h b a, fun k _ => by rw [h 0 (Ne.symm hr)]⟩
theorem t_sc.up {r q : Nat} {I J : tI} (h : t_sc q I J) (hq : t_scr q) : t_sc r I J := ⟨fun b _ c d => h.1 b (fun e => d (e ▸ hq)) c d, h.2⟩
theorem t_sc.u {r k : Nat} {v : Int32} {I : tI} (hr : r ≠ 0) : t_sc r I (xm_u2 I r k v) := t_off.sc t_off.u hr
theorem t_sc.us {r q k : Nat} {v : Int32} {I : tI} (hq : t_scr q) : t_sc r I (xm_u2 I q k v) := t_sc.up (t_sc.u (by unfold t_scr at hq; omega)) hq
theorem t_sc.uf {r k : Nat} {v : Int32} {I : tI} (hk : t_scf k) : t_sc r I (xm_u2 I 0 k v) := ⟨fun b _ c _ => funext fun j => xm_u2_ne c j, fun j hj => by
  rw [xm_u2_at, if_neg (fun e => by subst e; exact hj hk)]⟩
theorem t_sc.w {r q k : Nat} {v : Int32} {I J : tI} (h : t_sc r I J) (hq : t_scr q) : t_sc r I (xm_u2 J q k v) := h.tr (t_sc.us hq)
theorem t_s35 : t_scr 35 := Or.inr rfl
theorem t_s34 : t_scr 34 := Or.inl rfl
theorem t_row_scr {r : Nat} (h : t_row r) : ¬ t_scr r := by have := t_row_in h; unfold t_scr; omega
theorem t_fx_scr {b : Nat} (h : t_fx b) : ¬ t_scr b ∧ b ≠ 0 := by unfold t_fx at h; unfold t_scr; omega
/-- r is a row or scratch -/
def t_rs (r : Nat) : Prop := t_row r ∨ t_scr r
theorem t_rs.fx {r b : Nat} (hr : t_rs r) (h : t_fx b) : b ≠ r := fun e => by
  rcases hr with q | q
  · exact t_row_fx q (e ▸ h)
  · exact (t_fx_scr h).1 (e ▸ q)
/-- as t_sc, lots too -/
def t_sl (r : Nat) (I J : tI) : Prop := (∀ b, b ≠ r → b ≠ 0 → ¬ t_scr b → J b = I b) ∧ ∀ k, ¬ t_scf k → k ≠ 44 → J 0 k = I 0 k
theorem t_sc.sl {r : Nat} {I J : tI} (h : t_sc r I J) : t_sl r I J := ⟨h.1, fun k hk _ => h.2 k hk⟩
theorem t_sl.rf {r : Nat} {I : tI} : t_sl r I I := t_sc.rf.sl
theorem t_sl.tr {r : Nat} {I J L : tI} (h : t_sl r I J) (h2 : t_sl r J L) : t_sl r I L := ⟨fun b a c d => (h2.1 b a c d).trans (h.1 b a c d), fun k hk h4 => (h2.2 k hk h4).trans (h.2 k hk h4)⟩
theorem t_sl.l {r : Nat} {I : tI} {v : Int32} : t_sl r I (xm_u2 I 0 44 v) := ⟨fun b _ c _ => funext fun j => xm_u2_ne c j, fun j _ hj => by
  rw [xm_u2_at, if_neg hj]⟩
theorem t_sl.up {r q : Nat} {I J : tI} (h : t_sl q I J) (hq : t_scr q) : t_sl r I J := ⟨fun b _ c d => h.1 b (fun e => d (e ▸ hq)) c d, h.2⟩
theorem t_sl.fx {r : Nat} {I J : tI} (h : t_sl r I J) (hr : t_rs r) : ∀ b, t_fx b → J b = I b := fun b hb => h.1 b (hr.fx hb) (t_fx_scr hb).2 (t_fx_scr hb).1
theorem t_sl.ok {r : Nat} {I J : tI} (h : t_sl r I J) (hr : t_rs r) (hok : t_ok I) : t_ok J := t_ok_eq hok (h.fx hr 12 (Or.inl rfl))
theorem t_sl.lok {r : Nat} {I J : tI} (h : t_sl r I J) (hr : t_rs r) (hl : t_lok I) : t_lok J := t_lok_eq hl (fun k hk => h.fx hr _ (by unfold t_fx; omega)) (h.2 27 (by unfold t_scf; omega) (by decide))
theorem t_sl.K {r : Nat} {I J : tI} (h : t_sl r I J) (hr : t_rs r) (hok : t_ok I) (hl : t_lok I) : tK J = tK I := tK_eq hok hl (h.fx hr) (h.2 27 (by unfold t_scf; omega) (by decide))
theorem t_sl.A {r q : Nat} {I J : tI} (h : t_sl r I J) (hq : t_row q) (e : q ≠ r) : tA J q = tA I q := tA_eq fun k _ => by rw [h.1 q e (t_row_0 hq) (t_row_scr hq)]
theorem t_sl.h {r : Nat} {I J : tI} (h : t_sl r I J) (hr : t_rs r) : t_h J = t_h I := t_h_eq (h.fx hr 12 (Or.inl rfl))
theorem t_sl.p {r : Nat} {I J : tI} (h : t_sl r I J) (hr : t_rs r) : t_p J = t_p I := t_p_eq (h.fx hr 12 (Or.inl rfl))
theorem t_sc.fx {r : Nat} {I J : tI} (h : t_sc r I J) (hr : t_rs r) : ∀ b, t_fx b → J b = I b := h.sl.fx hr
theorem t_sc.ok {r : Nat} {I J : tI} (h : t_sc r I J) (hr : t_rs r) (hok : t_ok I) : t_ok J := h.sl.ok hr hok
theorem t_sc.lok {r : Nat} {I J : tI} (h : t_sc r I J) (hr : t_rs r) (hl : t_lok I) : t_lok J := h.sl.lok hr hl
theorem t_sc.K {r : Nat} {I J : tI} (h : t_sc r I J) (hr : t_rs r) (hok : t_ok I) (hl : t_lok I) : tK J = tK I := h.sl.K hr hok hl
theorem t_sc.A {r q : Nat} {I J : tI} (h : t_sc r I J) (hq : t_row q) (e : q ≠ r) : tA J q = tA I q := h.sl.A hq e
theorem t_r34 : t_rs 34 := Or.inr (Or.inl rfl)
theorem t_row34 {r : Nat} (h : t_row r) : r ≠ 34 := by have := t_row_in h; omega
abbrev bX11_settles_0 : List xE := [(.aload_n 0, 1, 0, 0, 0), (.getfield 91, 4, 8, 36, 1), (.aload_n 0, 5, 0, 0, 0), (.getfield 94, 8, 8, 37, 1), (.invokestatic 266, 11, 0, 0, 9), (.aload_n 0, 12, 0, 0, 0), (.iconst 0, 13, 0, 0, 0), (.putfield 282, 16, 8, 42, 0), (.return_, 17, 0, 0, 0)]
abbrev kX11_settles : List (Nat × List xE) := [(0, bX11_settles_0)]
abbrev lX11_settles : List (Nat × Nat × Nat × xS) := [(2, 0, 0, S_X11_copies)]
theorem oX11_settles_0 {Iv : xI} (hI : xm_good Iv)  : xm_okb Iv RX11 cX11_settles false 2 lX11_settles bX11_settles_0 0 := xo_0 dX11_settles_0 rfl trivial (xo_1 dX11_settles_1 rfl (xm_fg_of (Or.inl q1991) (by decide) rfl (by decide) rfl rfl (Or.inl rfl) rfl) (xo_0 dX11_settles_4 rfl trivial (xo_1 dX11_settles_5 rfl (xm_fg_of (Or.inl q1992) (by decide) rfl (by decide) rfl rfl (Or.inl rfl) rfl) (xo_c rfl (cv_X11_copies hI dX11_settles_8 (Or.inl q1948) (by decide)) (xo_0 dX11_settles_11 rfl trivial (xo_0 dX11_settles_12 rfl trivial (xo_0 dX11_settles_13 rfl (xm_fp_of (xm_fg_of (Or.inl q1997) (by decide) rfl (by decide) rfl rfl (Or.inl rfl) rfl) (by decide) rfl (Or.inl ⟨rfl, rfl⟩) rfl) (xo_0 dX11_settles_16 rfl trivial (xo_n)))))))))
theorem oX11_settles {Iv : xI} (hI : xm_good Iv)  : ∀ q ∈ kX11_settles, xm_okb Iv RX11 cX11_settles false 2 lX11_settles q.2 q.1 := by
  intro q hq
  simp only [List.mem_cons, List.not_mem_nil, or_false] at hq
  subst hq
  exact oX11_settles_0 hI  
def S_X11_settles : xS := tU fun as I Q => as = [.ref 0] ∧ ∀ J, (∀ k, k < 107 → J 37 k = I 36 k) → (∀ b, b ≠ 37 → b ≠ 0 → J b = I b) → (∀ k, k ≠ 42 → J 0 k = I 0 k) → J 0 42 = nI 0 → Q none J
theorem body_X11_settles : xm_Body 1 2 0 0 [] lX11_settles kX11_settles S_X11_settles := by
  intro X avs w Q QX hX0 hS
  have hG := xm_go [] hX0
  have hX := xm_go [] hX0
  clear hX0
  obtain ⟨I, rfl, rfl, hQ⟩ := hS
  refine ⟨rfl, ?_⟩
  repeat' (first
    | ((with_reducible refine @And.intro (vp_in _ _) _ ?_ ?_); (· (first | with_reducible assumption | ((with_reducible refine t_vin ?_); decide) | ((with_reducible refine vp_in_nI ?_ ?_) <;> first | omega | decide) | (simp (disch := omega) only [xl_n, xl_m, nI_dec, nI_sb, nI_add, pk_mul]; (with_reducible refine vp_in_nI ?_ ?_) <;> first | omega | decide))); (conv => whnf))
    | (refine And.intro (by first | with_reducible assumption | exact (show tL _ = _ from rfl) | decide) ?_; (conv => whnf))
    | ((with_reducible refine @And.intro (_ = _) _ ?_ ?_); (· rfl); (conv => whnf))
    | ((with_reducible refine @And.intro (@LE.le Nat _ _ _) _ ?_ ?_); (· (first | exact Nat.zero_le _ | exact Nat.le_of_ble_eq_true rfl | omega)); (conv => whnf))
    | ((with_reducible refine @And.intro (@LT.lt Nat _ _ _) _ ?_ ?_); (· omega); (conv => whnf))
    | ((with_reducible refine @And.intro (∃ _, _ = _) _ ?_ ?_); (· exact ⟨_, rfl⟩); (conv => whnf))
    | ((with_reducible refine @And.intro (_ ∨ _) _ ?_ ?_); (· (first | exact Or.inl rfl | exact Or.inr rfl | exact t_b01 _ | assumption)); (conv => whnf))
    | ((with_reducible refine @And.intro (¬ (_ = _)) _ ?_ ?_); (· first | assumption | (with_reducible assumption)); (conv => whnf))
    | (refine hX _ _ _ _ _ _ ?_; (conv => whnf); fail_if_success show False)
    | (rw [t_si]; (conv => whnf))
    | (refine ⟨_, rfl, ?_⟩; (conv => whnf))
    | (refine ⟨_, _, rfl, ?_⟩; (conv => whnf))
    | (refine ⟨_, _, _, rfl, ?_⟩; (conv => whnf))
    | (refine ⟨_, _, _, _, rfl, ?_⟩; (conv => whnf))
    | (refine And.intro (fun c => ?_) (fun c => ?_) <;> (first | (exact absurd c (by decide +kernel)) | (conv => whnf)))
    | fail)
  intro J hJ hA
  (conv => whnf)
  repeat' (first
    | ((with_reducible refine @And.intro (vp_in _ _) _ ?_ ?_); (· (first | with_reducible assumption | ((with_reducible refine t_vin ?_); decide) | ((with_reducible refine vp_in_nI ?_ ?_) <;> first | omega | decide) | (simp (disch := omega) only [xl_n, xl_m, nI_dec, nI_sb, nI_add, pk_mul]; (with_reducible refine vp_in_nI ?_ ?_) <;> first | omega | decide))); (conv => whnf))
    | (refine And.intro (by first | with_reducible assumption | exact (show tL _ = _ from rfl) | decide) ?_; (conv => whnf))
    | ((with_reducible refine @And.intro (_ = _) _ ?_ ?_); (· rfl); (conv => whnf))
    | ((with_reducible refine @And.intro (@LE.le Nat _ _ _) _ ?_ ?_); (· (first | exact Nat.zero_le _ | exact Nat.le_of_ble_eq_true rfl | omega)); (conv => whnf))
    | ((with_reducible refine @And.intro (@LT.lt Nat _ _ _) _ ?_ ?_); (· omega); (conv => whnf))
    | ((with_reducible refine @And.intro (∃ _, _ = _) _ ?_ ?_); (· exact ⟨_, rfl⟩); (conv => whnf))
    | ((with_reducible refine @And.intro (_ ∨ _) _ ?_ ?_); (· (first | exact Or.inl rfl | exact Or.inr rfl | exact t_b01 _ | assumption)); (conv => whnf))
    | ((with_reducible refine @And.intro (¬ (_ = _)) _ ?_ ?_); (· first | assumption | (with_reducible assumption)); (conv => whnf))
    | (refine hX _ _ _ _ _ _ ?_; (conv => whnf); fail_if_success show False)
    | (rw [t_si]; (conv => whnf))
    | (refine ⟨_, rfl, ?_⟩; (conv => whnf))
    | (refine ⟨_, _, rfl, ?_⟩; (conv => whnf))
    | (refine ⟨_, _, _, rfl, ?_⟩; (conv => whnf))
    | (refine ⟨_, _, _, _, rfl, ?_⟩; (conv => whnf))
    | (refine And.intro (fun c => ?_) (fun c => ?_) <;> (first | (exact absurd c (by decide +kernel)) | (conv => whnf)))
    | fail)
  all_goals clear hX hG
  simp (disch := omega) only [xl_n, xl_m, nI_dec, nI_sb, xl_0, xl_1, tW_i, t_bn0, t_bn1, Classical.not_not, t_lt, nI_add, nI_1, pk_mul, nI_clamp, t_si, nI_eq, nI_leI, nM_ne, nM_ne] at *
  refine hQ _ (fun k hk => ?_) (fun b hb h0 => ?_) (fun k hk => ?_) ?_
  · rw [xm_u2_ne (by decide)]
    exact hA k hk
  · rw [show xm_u2 J 0 42 (nI 0) b = J b from funext fun j => xm_u2_ne h0 j]
    exact hJ b hb
  · rw [xm_u2_at, if_neg hk, hJ 0 (by decide)]
  · rw [xm_u2_at, if_pos rfl]
theorem ct_X11_settles {Iv : xI} (hI : xm_good Iv) : xm_Ct Iv yX11_settles (ws_ yX11_settles cX11_settles 1 none) 2 0 0 S_X11_settles := xm_enter (rt := 2) (init := false) (by decide +kernel) rfl (fun h => by cases h) (Or.inr (Or.inr (Or.inl ⟨rfl, rfl⟩))) (oX11_settles hI) body_X11_settles
theorem cv_X11_settles {Iv : xI} {own : String} {cc : ByteArray} {fr pc idx : Nat} (hI : xm_good Iv) (hdg : decode cc pc = .ok (.invokevirtual idx, 3)) (hl : xm_ml own idx yX11_settles) (hfr : 2 < fr) : xm_CallOK Iv own cc fr pc (pc + 3) 1 0 0 (xm_this 8 S_X11_settles) := xm_callV 8 hI (ct_X11_settles hI) hdg hl q1953 qs52 q145 q1954 rfl rfl (by decide +kernel) hfr (by decide)
/-! byLaw: the stack lies turned about -/
def t_stk (J : tI) : List Int32 → Prop
  | [] => True
  | v :: r => J 34 r.length = v ∧ t_stk J r
theorem t_stk_u {J : tI} {n : Nat} {x : Int32} : ∀ {L : List Int32}, t_stk J L → L.length ≤ n → t_stk (xm_u2 J 34 n x) L
  | [], _, _ => trivial
  | v :: r, h, hl => by
    simp only [List.length_cons] at hl
    refine ⟨?_, t_stk_u h.2 (by omega)⟩
    rw [xm_u2_at, if_neg (by omega)]
    exact h.1
theorem t_dep_le (I : tI) : ∀ k, t_dep I k ≤ k
  | 0 => Nat.le_refl _
  | k + 1 => by
    have := t_dep_le I k
    unfold t_dep
    split <;> omega
theorem t_ev_len {I : tI} (hl : t_lok I) (f : Nat → Int32) : ∀ k, k ≤ t_lm I → (t_ev I f k).length = t_dep I k
  | 0, _ => rfl
  | k + 1, hk => by
    have ih := t_ev_len hl f k (by omega)
    obtain ⟨z, hz, e, h2, h1⟩ := hl.2.2.1 k (by omega)
    unfold t_ev t_dep
    by_cases e0 : I (200 + k) 0 = nI 0
    · simp [e0, ih]
    · by_cases e1 : I (200 + k) 0 = nI 1
      · simp [e1, ih, show ¬ nI 1 = nI 0 by decide +kernel]
      · have z2 : 2 ≤ z := by
          rcases Nat.lt_or_ge z 2 with q | q
          · exact absurd e (by rcases (show z = 0 ∨ z = 1 by omega) with rfl | rfl <;> assumption)
          · exact q
        have := h2 z2
        rw [← ih] at this
        simp only [e0, e1, false_or, if_false, or_self]
        rw [← ih]
        match t_ev I f k, this with
        | v :: u :: r, _ => simp
abbrev bX11_byLaw_0 : List xE := [(.aload_n 0, 1, 0, 0, 0), (.getfield 270, 4, 8, 27, 0), (.ifCond .ne 29, 7, 0, 33, 0), (.iconst 2, 8, 0, 0, 0), (.aload_n 0, 9, 0, 0, 0), (.getfield 88, 12, 8, 35, 1), (.iconst 0, 13, 0, 0, 0), (.iaload, 14, 0, 0, 0), (.imul, 15, 0, 0, 0), (.iconst 3, 16, 0, 0, 0), (.aload_n 0, 17, 0, 0, 0), (.getfield 88, 20, 8, 35, 1), (.iconst 3, 21, 0, 0, 0), (.iaload, 22, 0, 0, 0), (.imul, 23, 0, 0, 0), (.isub, 24, 0, 0, 0), (.aload_n 0, 25, 0, 0, 0), (.getfield 88, 28, 8, 35, 1), (.bipush 8, 30, 0, 0, 0), (.iaload, 31, 0, 0, 0), (.iadd, 32, 0, 0, 0), (.ireturn, 33, 0, 0, 0)]
abbrev bX11_byLaw_33 : List xE := [(.iconst 0, 34, 0, 0, 0), (.istore_n 1, 35, 0, 0, 0), (.iconst 0, 36, 0, 0, 0), (.istore_n 2, 37, 0, 0, 0)]
abbrev bX11_byLaw_37 : List xE := [(.iload_n 2, 38, 0, 0, 0), (.aload_n 0, 39, 0, 0, 0), (.getfield 270, 42, 8, 27, 0), (.if_icmp .ge 104, 45, 0, 146, 0), (.aload_n 0, 46, 0, 0, 0), (.getfield 70, 49, 8, 29, 1), (.iload_n 2, 50, 0, 0, 0), (.aaload, 51, 0, 0, 0), (.iconst 0, 52, 0, 0, 0), (.iaload, 53, 0, 0, 0), (.iconst 2, 54, 0, 0, 0), (.if_icmp .ge 50, 57, 0, 104, 0), (.aload_n 0, 58, 0, 0, 0), (.getfield 85, 61, 8, 34, 1), (.iload_n 1, 62, 0, 0, 0), (.aload_n 0, 63, 0, 0, 0), (.getfield 70, 66, 8, 29, 1), (.iload_n 2, 67, 0, 0, 0), (.aaload, 68, 0, 0, 0), (.iconst 0, 69, 0, 0, 0), (.iaload, 70, 0, 0, 0), (.ifCond .ne 14, 73, 0, 84, 0), (.aload_n 0, 74, 0, 0, 0), (.getfield 70, 77, 8, 29, 1), (.iload_n 2, 78, 0, 0, 0), (.aaload, 79, 0, 0, 0), (.iconst 1, 80, 0, 0, 0), (.iaload, 81, 0, 0, 0), (.goto 16, 84, 0, 97, 0)]
abbrev bX11_byLaw_84 : List xE := [(.aload_n 0, 85, 0, 0, 0), (.getfield 88, 88, 8, 35, 1), (.aload_n 0, 89, 0, 0, 0), (.getfield 70, 92, 8, 29, 1), (.iload_n 2, 93, 0, 0, 0), (.aaload, 94, 0, 0, 0), (.iconst 1, 95, 0, 0, 0), (.iaload, 96, 0, 0, 0), (.iaload, 97, 0, 0, 0)]
abbrev bX11_byLaw_97 : List xE := [(.iastore, 98, 0, 0, 0), (.iinc 1 1, 101, 0, 0, 0), (.goto 39, 104, 0, 140, 0)]
abbrev bX11_byLaw_104 : List xE := [(.iinc 1 (-1), 107, 0, 0, 0), (.aload_n 0, 108, 0, 0, 0), (.getfield 85, 111, 8, 34, 1), (.iload_n 1, 112, 0, 0, 0), (.iconst 1, 113, 0, 0, 0), (.isub, 114, 0, 0, 0), (.aload_n 0, 115, 0, 0, 0), (.getfield 70, 118, 8, 29, 1), (.iload_n 2, 119, 0, 0, 0), (.aaload, 120, 0, 0, 0), (.iconst 0, 121, 0, 0, 0), (.iaload, 122, 0, 0, 0), (.aload_n 0, 123, 0, 0, 0), (.getfield 85, 126, 8, 34, 1), (.iload_n 1, 127, 0, 0, 0), (.iconst 1, 128, 0, 0, 0), (.isub, 129, 0, 0, 0), (.iaload, 130, 0, 0, 0), (.aload_n 0, 131, 0, 0, 0), (.getfield 85, 134, 8, 34, 1), (.iload_n 1, 135, 0, 0, 0), (.iaload, 136, 0, 0, 0), (.invokestatic 316, 139, 0, 0, 9), (.iastore, 140, 0, 0, 0)]
abbrev bX11_byLaw_140 : List xE := [(.iinc 2 1, 143, 0, 0, 0), (.goto (-106), 146, 0, 37, 0)]
abbrev bX11_byLaw_146 : List xE := [(.aload_n 0, 147, 0, 0, 0), (.getfield 85, 150, 8, 34, 1), (.iconst 0, 151, 0, 0, 0), (.iaload, 152, 0, 0, 0), (.ireturn, 153, 0, 0, 0)]
abbrev kX11_byLaw : List (Nat × List xE) := [(0, bX11_byLaw_0), (33, bX11_byLaw_33), (37, bX11_byLaw_37), (84, bX11_byLaw_84), (97, bX11_byLaw_97), (104, bX11_byLaw_104), (140, bX11_byLaw_140), (146, bX11_byLaw_146)]
abbrev lX11_byLaw : List (Nat × Nat × Nat × xS) := [(3, 0, 0, S_X11_by)]
theorem oX11_byLaw_0 {Iv : xI} (hI : xm_good Iv)  : xm_okb Iv RX11 cX11_byLaw false 3 lX11_byLaw bX11_byLaw_0 0 := xo_0 dX11_byLaw_0 rfl trivial (xo_0 dX11_byLaw_1 rfl (xm_fg_of (Or.inl q1982) (by decide) rfl (by decide) rfl rfl (Or.inl rfl) rfl) (xo_0 dX11_byLaw_4 rfl rfl (xo_0 dX11_byLaw_7 rfl trivial (xo_0 dX11_byLaw_8 rfl trivial (xo_1 dX11_byLaw_9 rfl (xm_fg_of (Or.inl q1990) (by decide) rfl (by decide) rfl rfl (Or.inl rfl) rfl) (xo_0 dX11_byLaw_12 rfl trivial (xo_0 dX11_byLaw_13 rfl trivial (xo_0 dX11_byLaw_14 rfl trivial (xo_0 dX11_byLaw_15 rfl trivial (xo_0 dX11_byLaw_16 rfl trivial (xo_1 dX11_byLaw_17 rfl (xm_fg_of (Or.inl q1990) (by decide) rfl (by decide) rfl rfl (Or.inl rfl) rfl) (xo_0 dX11_byLaw_20 rfl trivial (xo_0 dX11_byLaw_21 rfl trivial (xo_0 dX11_byLaw_22 rfl trivial (xo_0 dX11_byLaw_23 rfl trivial (xo_0 dX11_byLaw_24 rfl trivial (xo_1 dX11_byLaw_25 rfl (xm_fg_of (Or.inl q1990) (by decide) rfl (by decide) rfl rfl (Or.inl rfl) rfl) (xo_0 dX11_byLaw_28 rfl (xo_bipush (by decide +kernel)) (xo_0 dX11_byLaw_30 rfl trivial (xo_0 dX11_byLaw_31 rfl trivial (xo_0 dX11_byLaw_32 rfl trivial (xo_n))))))))))))))))))))))
theorem oX11_byLaw_33 {Iv : xI} (hI : xm_good Iv)  : xm_okb Iv RX11 cX11_byLaw false 3 lX11_byLaw bX11_byLaw_33 33 := xo_0 dX11_byLaw_33 rfl trivial (xo_0 dX11_byLaw_34 rfl trivial (xo_0 dX11_byLaw_35 rfl trivial (xo_0 dX11_byLaw_36 rfl trivial (xo_n))))
theorem oX11_byLaw_37 {Iv : xI} (hI : xm_good Iv)  : xm_okb Iv RX11 cX11_byLaw false 3 lX11_byLaw bX11_byLaw_37 37 := xo_0 dX11_byLaw_37 rfl trivial (xo_0 dX11_byLaw_38 rfl trivial (xo_0 dX11_byLaw_39 rfl (xm_fg_of (Or.inl q1982) (by decide) rfl (by decide) rfl rfl (Or.inl rfl) rfl) (xo_0 dX11_byLaw_42 rfl rfl (xo_0 dX11_byLaw_45 rfl trivial (xo_1 dX11_byLaw_46 rfl (xm_fg_of (Or.inl q1984) (by decide) rfl (by decide) rfl rfl (Or.inl rfl) rfl) (xo_0 dX11_byLaw_49 rfl trivial (xo_0 dX11_byLaw_50 rfl trivial (xo_0 dX11_byLaw_51 rfl trivial (xo_0 dX11_byLaw_52 rfl trivial (xo_0 dX11_byLaw_53 rfl trivial (xo_0 dX11_byLaw_54 rfl rfl (xo_0 dX11_byLaw_57 rfl trivial (xo_1 dX11_byLaw_58 rfl (xm_fg_of (Or.inl q1989) (by decide) rfl (by decide) rfl rfl (Or.inl rfl) rfl) (xo_0 dX11_byLaw_61 rfl trivial (xo_0 dX11_byLaw_62 rfl trivial (xo_1 dX11_byLaw_63 rfl (xm_fg_of (Or.inl q1984) (by decide) rfl (by decide) rfl rfl (Or.inl rfl) rfl) (xo_0 dX11_byLaw_66 rfl trivial (xo_0 dX11_byLaw_67 rfl trivial (xo_0 dX11_byLaw_68 rfl trivial (xo_0 dX11_byLaw_69 rfl trivial (xo_0 dX11_byLaw_70 rfl rfl (xo_0 dX11_byLaw_73 rfl trivial (xo_1 dX11_byLaw_74 rfl (xm_fg_of (Or.inl q1984) (by decide) rfl (by decide) rfl rfl (Or.inl rfl) rfl) (xo_0 dX11_byLaw_77 rfl trivial (xo_0 dX11_byLaw_78 rfl trivial (xo_0 dX11_byLaw_79 rfl trivial (xo_0 dX11_byLaw_80 rfl trivial (xo_0 dX11_byLaw_81 rfl rfl (xo_n)))))))))))))))))))))))))))))
theorem oX11_byLaw_84 {Iv : xI} (hI : xm_good Iv)  : xm_okb Iv RX11 cX11_byLaw false 3 lX11_byLaw bX11_byLaw_84 84 := xo_0 dX11_byLaw_84 rfl trivial (xo_1 dX11_byLaw_85 rfl (xm_fg_of (Or.inl q1990) (by decide) rfl (by decide) rfl rfl (Or.inl rfl) rfl) (xo_0 dX11_byLaw_88 rfl trivial (xo_1 dX11_byLaw_89 rfl (xm_fg_of (Or.inl q1984) (by decide) rfl (by decide) rfl rfl (Or.inl rfl) rfl) (xo_0 dX11_byLaw_92 rfl trivial (xo_0 dX11_byLaw_93 rfl trivial (xo_0 dX11_byLaw_94 rfl trivial (xo_0 dX11_byLaw_95 rfl trivial (xo_0 dX11_byLaw_96 rfl trivial (xo_n)))))))))
theorem oX11_byLaw_97 {Iv : xI} (hI : xm_good Iv)  : xm_okb Iv RX11 cX11_byLaw false 3 lX11_byLaw bX11_byLaw_97 97 := xo_0 dX11_byLaw_97 rfl trivial (xo_0 dX11_byLaw_98 rfl trivial (xo_0 dX11_byLaw_101 rfl rfl (xo_n)))
theorem oX11_byLaw_104 {Iv : xI} (hI : xm_good Iv)  : xm_okb Iv RX11 cX11_byLaw false 3 lX11_byLaw bX11_byLaw_104 104 := xo_0 dX11_byLaw_104 rfl trivial (xo_0 dX11_byLaw_107 rfl trivial (xo_1 dX11_byLaw_108 rfl (xm_fg_of (Or.inl q1989) (by decide) rfl (by decide) rfl rfl (Or.inl rfl) rfl) (xo_0 dX11_byLaw_111 rfl trivial (xo_0 dX11_byLaw_112 rfl trivial (xo_0 dX11_byLaw_113 rfl trivial (xo_0 dX11_byLaw_114 rfl trivial (xo_1 dX11_byLaw_115 rfl (xm_fg_of (Or.inl q1984) (by decide) rfl (by decide) rfl rfl (Or.inl rfl) rfl) (xo_0 dX11_byLaw_118 rfl trivial (xo_0 dX11_byLaw_119 rfl trivial (xo_0 dX11_byLaw_120 rfl trivial (xo_0 dX11_byLaw_121 rfl trivial (xo_0 dX11_byLaw_122 rfl trivial (xo_1 dX11_byLaw_123 rfl (xm_fg_of (Or.inl q1989) (by decide) rfl (by decide) rfl rfl (Or.inl rfl) rfl) (xo_0 dX11_byLaw_126 rfl trivial (xo_0 dX11_byLaw_127 rfl trivial (xo_0 dX11_byLaw_128 rfl trivial (xo_0 dX11_byLaw_129 rfl trivial (xo_0 dX11_byLaw_130 rfl trivial (xo_1 dX11_byLaw_131 rfl (xm_fg_of (Or.inl q1989) (by decide) rfl (by decide) rfl rfl (Or.inl rfl) rfl) (xo_0 dX11_byLaw_134 rfl trivial (xo_0 dX11_byLaw_135 rfl trivial (xo_c rfl (cv_X11_by hI dX11_byLaw_136 (Or.inl q2355) (by decide)) (xo_0 dX11_byLaw_139 rfl trivial (xo_n))))))))))))))))))))))))
theorem oX11_byLaw_140 {Iv : xI} (hI : xm_good Iv)  : xm_okb Iv RX11 cX11_byLaw false 3 lX11_byLaw bX11_byLaw_140 140 := xo_0 dX11_byLaw_140 rfl trivial (xo_0 dX11_byLaw_143 rfl rfl (xo_n))
theorem oX11_byLaw_146 {Iv : xI} (hI : xm_good Iv)  : xm_okb Iv RX11 cX11_byLaw false 3 lX11_byLaw bX11_byLaw_146 146 := xo_0 dX11_byLaw_146 rfl trivial (xo_1 dX11_byLaw_147 rfl (xm_fg_of (Or.inl q1989) (by decide) rfl (by decide) rfl rfl (Or.inl rfl) rfl) (xo_0 dX11_byLaw_150 rfl trivial (xo_0 dX11_byLaw_151 rfl trivial (xo_0 dX11_byLaw_152 rfl trivial (xo_n)))))
theorem oX11_byLaw {Iv : xI} (hI : xm_good Iv)  : ∀ q ∈ kX11_byLaw, xm_okb Iv RX11 cX11_byLaw false 3 lX11_byLaw q.2 q.1 := by
  intro q hq
  simp only [List.mem_cons, List.not_mem_nil, or_false] at hq
  rcases hq with rfl | rfl | rfl | rfl | rfl | rfl | rfl | rfl
  · exact oX11_byLaw_0 hI  
  · exact oX11_byLaw_33 hI  
  · exact oX11_byLaw_37 hI  
  · exact oX11_byLaw_84 hI  
  · exact oX11_byLaw_97 hI  
  · exact oX11_byLaw_104 hI  
  · exact oX11_byLaw_140 hI  
  · exact oX11_byLaw_146 hI  
def S_X11_byLaw : xS := tU fun as I Q => as = [.ref 0] ∧ t_lok I ∧ ∀ J, t_off 34 I J → Q (some (.int (t_law I (I 35)))) J
theorem body_X11_byLaw : xm_Body 3 0 0 0 [] lX11_byLaw kX11_byLaw S_X11_byLaw := by
  intro X avs w Q QX hX0 hS
  have hG := xm_go [] hX0
  have hX := xm_go [37] hX0
  clear hX0
  obtain ⟨I, rfl, rfl, hl, hQ⟩ := hS
  have hll := hl
  obtain ⟨hn, h160, hc, hd⟩ := hll
  have loop : t_lm I ≠ 0 → ∀ k, k ≤ t_lm I → ∀ J, t_off 34 I J → t_stk J (t_ev I (I 35) k) → X 37 [some (.ref 0), some (.int (nI (t_ev I (I 35) k).length)), some (.int (nI k))] [] (tW J) 0 0 := by
    intro hnz
    refine t_for fun k h1 ih J hJ hk => ?_
    have hn' : J 0 27 = nI (t_lm I) := by rw [hJ 0 (by decide)]; exact hn
    refine hG _ _ _ _ _ _ ?_
    (conv => whnf)
    repeat' (first
      | ((with_reducible refine @And.intro (vp_in _ _) _ ?_ ?_); (· (first | with_reducible assumption | ((with_reducible refine t_vin ?_); decide) | ((with_reducible refine vp_in_nI ?_ ?_) <;> first | omega | decide) | (simp (disch := omega) only [xl_n, xl_m, nI_dec, nI_sb, nI_add, pk_mul]; (with_reducible refine vp_in_nI ?_ ?_) <;> first | omega | decide))); (conv => whnf))
      | (refine And.intro (by first | with_reducible assumption | exact (show tL _ = _ from rfl) | decide) ?_; (conv => whnf))
      | ((with_reducible refine @And.intro (_ = _) _ ?_ ?_); (· rfl); (conv => whnf))
      | ((with_reducible refine @And.intro (@LE.le Nat _ _ _) _ ?_ ?_); (· (first | exact Nat.zero_le _ | exact Nat.le_of_ble_eq_true rfl | omega)); (conv => whnf))
      | ((with_reducible refine @And.intro (@LT.lt Nat _ _ _) _ ?_ ?_); (· omega); (conv => whnf))
      | ((with_reducible refine @And.intro (∃ _, _ = _) _ ?_ ?_); (· exact ⟨_, rfl⟩); (conv => whnf))
      | ((with_reducible refine @And.intro (_ ∨ _) _ ?_ ?_); (· (first | exact Or.inl rfl | exact Or.inr rfl | exact t_b01 _ | assumption)); (conv => whnf))
      | ((with_reducible refine @And.intro (¬ (_ = _)) _ ?_ ?_); (· first | assumption | (with_reducible assumption)); (conv => whnf))
      | (refine hX _ _ _ _ _ _ ?_; (conv => whnf); fail_if_success show False)
      | (rw [t_si]; (conv => whnf))
      | (refine ⟨_, rfl, ?_⟩; (conv => whnf))
      | (refine ⟨_, _, rfl, ?_⟩; (conv => whnf))
      | (refine ⟨_, _, _, rfl, ?_⟩; (conv => whnf))
      | (refine ⟨_, _, _, _, rfl, ?_⟩; (conv => whnf))
      | fail)
    refine And.intro (fun c => ?_) (fun c => ?_) <;> (conv => whnf)
    · repeat' (first
        | ((with_reducible refine @And.intro (vp_in _ _) _ ?_ ?_); (· (first | with_reducible assumption | ((with_reducible refine t_vin ?_); decide) | ((with_reducible refine vp_in_nI ?_ ?_) <;> first | omega | decide) | (simp (disch := omega) only [xl_n, xl_m, nI_dec, nI_sb, nI_add, pk_mul]; (with_reducible refine vp_in_nI ?_ ?_) <;> first | omega | decide))); (conv => whnf))
        | (refine And.intro (by first | with_reducible assumption | exact (show tL _ = _ from rfl) | decide) ?_; (conv => whnf))
        | ((with_reducible refine @And.intro (_ = _) _ ?_ ?_); (· rfl); (conv => whnf))
        | ((with_reducible refine @And.intro (@LE.le Nat _ _ _) _ ?_ ?_); (· (first | exact Nat.zero_le _ | exact Nat.le_of_ble_eq_true rfl | omega)); (conv => whnf))
        | ((with_reducible refine @And.intro (@LT.lt Nat _ _ _) _ ?_ ?_); (· omega); (conv => whnf))
        | ((with_reducible refine @And.intro (∃ _, _ = _) _ ?_ ?_); (· exact ⟨_, rfl⟩); (conv => whnf))
        | ((with_reducible refine @And.intro (_ ∨ _) _ ?_ ?_); (· (first | exact Or.inl rfl | exact Or.inr rfl | exact t_b01 _ | assumption)); (conv => whnf))
        | ((with_reducible refine @And.intro (¬ (_ = _)) _ ?_ ?_); (· first | assumption | (with_reducible assumption)); (conv => whnf))
        | (refine hX _ _ _ _ _ _ ?_; (conv => whnf); fail_if_success show False)
        | (rw [t_si]; (conv => whnf))
        | (refine ⟨_, rfl, ?_⟩; (conv => whnf))
        | (refine ⟨_, _, rfl, ?_⟩; (conv => whnf))
        | (refine ⟨_, _, _, rfl, ?_⟩; (conv => whnf))
        | (refine ⟨_, _, _, _, rfl, ?_⟩; (conv => whnf))
        | fail)
      have : k = t_lm I := Nat.le_antisymm h1 (t_kge hn' c (by omega) (by omega))
      subst this
      have z0 : 0 < t_lm I := Nat.pos_of_ne_zero hnz
      have hlen := t_ev_len hl (I 35) (t_lm I) (Nat.le_refl _)
      rw [hd z0] at hlen
      have ⟨v, hv⟩ : ∃ v, t_ev I (I 35) (t_lm I) = [v] := by
        match t_ev I (I 35) (t_lm I), hlen with
        | [v], _ => exact ⟨v, rfl⟩
      rw [hv] at hk
      refine t_q (hQ J hJ) ?_
      have q : J 34 0 = v := hk.1
      clear hX hG
      simp (disch := omega) only [xl_n, xl_m, nI_dec, nI_sb, xl_0, xl_1, tW_i, t_bn0, t_bn1, Classical.not_not, t_lt, nI_add, nI_1, pk_mul, nI_clamp, t_si, nI_eq, nI_leI, nM_ne, nM_ne] at *
      rw [q, t_law, if_neg (by rw [hn, nI_eq (by omega) (by omega)]; exact hnz), hv]
      rfl
    · have h2 : k < t_lm I := t_klt hn' c (by omega)
      obtain ⟨z, hz, e, hz2, hz1⟩ := hc k h2
      have eJ : J (200 + k) = I (200 + k) := hJ _ (by omega)
      have hlen := t_ev_len hl (I 35) k h1
      have hlk := t_dep_le I k
      repeat' (first
        | ((with_reducible refine @And.intro (vp_in _ _) _ ?_ ?_); (· (first | with_reducible assumption | ((with_reducible refine t_vin ?_); decide) | ((with_reducible refine vp_in_nI ?_ ?_) <;> first | omega | decide) | (simp (disch := omega) only [xl_n, xl_m, nI_dec, nI_sb, nI_add, pk_mul]; (with_reducible refine vp_in_nI ?_ ?_) <;> first | omega | decide))); (conv => whnf))
        | (refine And.intro (by first | with_reducible assumption | exact (show tL _ = _ from rfl) | decide) ?_; (conv => whnf))
        | ((with_reducible refine @And.intro (_ = _) _ ?_ ?_); (· rfl); (conv => whnf))
        | ((with_reducible refine @And.intro (@LE.le Nat _ _ _) _ ?_ ?_); (· (first | exact Nat.zero_le _ | exact Nat.le_of_ble_eq_true rfl | omega)); (conv => whnf))
        | ((with_reducible refine @And.intro (@LT.lt Nat _ _ _) _ ?_ ?_); (· omega); (conv => whnf))
        | ((with_reducible refine @And.intro (∃ _, _ = _) _ ?_ ?_); (· exact ⟨_, rfl⟩); (conv => whnf))
        | ((with_reducible refine @And.intro (_ ∨ _) _ ?_ ?_); (· (first | exact Or.inl rfl | exact Or.inr rfl | exact t_b01 _ | assumption)); (conv => whnf))
        | ((with_reducible refine @And.intro (¬ (_ = _)) _ ?_ ?_); (· first | assumption | (with_reducible assumption)); (conv => whnf))
        | (refine hX _ _ _ _ _ _ ?_; (conv => whnf); fail_if_success show False)
        | (rw [t_si]; (conv => whnf))
        | (refine ⟨_, rfl, ?_⟩; (conv => whnf))
        | (refine ⟨_, _, rfl, ?_⟩; (conv => whnf))
        | (refine ⟨_, _, _, rfl, ?_⟩; (conv => whnf))
        | (refine ⟨_, _, _, _, rfl, ?_⟩; (conv => whnf))
        | (rw [t_l200 (by first | with_reducible assumption | omega | exact vp_lt (by assumption) | (rw [nI_clamp (by omega)]; omega))]; (conv => whnf))
        | fail)
      refine And.intro (fun c2 => ?_) (fun c2 => ?_) <;> (conv => whnf)
      · have z2 : 2 ≤ z := by
          clear hX hG ih
          simp (disch := omega) only [xl_n, xl_m, nI_dec, nI_sb, xl_0, xl_1, tW_i, t_bn0, t_bn1, Classical.not_not, t_lt, nI_add, nI_1, pk_mul, nI_clamp, t_si, nI_eq, nI_leI, nM_ne, nM_ne, eJ, e] at *
          exact c2
        have h3 := hz2 z2
        rw [← hlen] at h3
        have ⟨v, u, r, hv⟩ : ∃ v u r, t_ev I (I 35) k = v :: u :: r := by
          match t_ev I (I 35) k, h3 with
          | v :: u :: r, _ => exact ⟨v, u, r, rfl⟩
        rw [hv] at hk hlen ⊢
        simp only [List.length_cons] at hlen ⊢
        have hev : t_ev I (I 35) (k + 1) = t_by (nI z) u v :: r := by
          unfold t_ev
          rw [hv]
          simp (disch := omega) only [e, nI_eq]
          rw [if_neg (by omega), if_neg (by omega)]
        have q1 : J 34 (r.length + 1) = v := hk.1
        have q2 : J 34 r.length = u := hk.2.1
        repeat' (first
          | ((with_reducible refine @And.intro (vp_in _ _) _ ?_ ?_); (· (first | with_reducible assumption | ((with_reducible refine t_vin ?_); decide) | ((with_reducible refine vp_in_nI ?_ ?_) <;> first | omega | decide) | (simp (disch := omega) only [xl_n, xl_m, nI_dec, nI_sb, nI_add, pk_mul]; (with_reducible refine vp_in_nI ?_ ?_) <;> first | omega | decide))); (conv => whnf))
          | (refine And.intro (by first | with_reducible assumption | exact (show tL _ = _ from rfl) | decide) ?_; (conv => whnf))
          | ((with_reducible refine @And.intro (_ = _) _ ?_ ?_); (· rfl); (conv => whnf))
          | ((with_reducible refine @And.intro (@LE.le Nat _ _ _) _ ?_ ?_); (· (first | exact Nat.zero_le _ | exact Nat.le_of_ble_eq_true rfl | omega)); (conv => whnf))
          | ((with_reducible refine @And.intro (@LT.lt Nat _ _ _) _ ?_ ?_); (· omega); (conv => whnf))
          | ((with_reducible refine @And.intro (∃ _, _ = _) _ ?_ ?_); (· exact ⟨_, rfl⟩); (conv => whnf))
          | ((with_reducible refine @And.intro (_ ∨ _) _ ?_ ?_); (· (first | exact Or.inl rfl | exact Or.inr rfl | exact t_b01 _ | assumption)); (conv => whnf))
          | ((with_reducible refine @And.intro (¬ (_ = _)) _ ?_ ?_); (· first | assumption | (with_reducible assumption)); (conv => whnf))
          | (refine hX _ _ _ _ _ _ ?_; (conv => whnf); fail_if_success show False)
          | (rw [t_si]; (conv => whnf))
          | (refine ⟨_, rfl, ?_⟩; (conv => whnf))
          | (refine ⟨_, _, rfl, ?_⟩; (conv => whnf))
          | (refine ⟨_, _, _, rfl, ?_⟩; (conv => whnf))
          | (refine ⟨_, _, _, _, rfl, ?_⟩; (conv => whnf))
          | (rw [t_l200 (by first | with_reducible assumption | omega | exact vp_lt (by assumption) | (rw [nI_clamp (by omega)]; omega))]; (conv => whnf))
          | fail)
        refine ⟨z, u, v, ?_, z2, hz, ?_⟩
        · clear hX hG ih hQ
          simp (disch := omega) only [xl_n, xl_m, nI_dec, nI_sb, xl_0, xl_1, tW_i, t_bn0, t_bn1, Classical.not_not, t_lt, nI_add, nI_1, pk_mul, nI_clamp, t_si, nI_eq, nI_leI, nM_ne, nM_ne, xm_fld] at *
          simp [q1, q2, eJ, e]
        (conv => whnf)
        repeat' (first
          | ((with_reducible refine @And.intro (vp_in _ _) _ ?_ ?_); (· (first | with_reducible assumption | ((with_reducible refine t_vin ?_); decide) | ((with_reducible refine vp_in_nI ?_ ?_) <;> first | omega | decide) | (simp (disch := omega) only [xl_n, xl_m, nI_dec, nI_sb, nI_add, pk_mul]; (with_reducible refine vp_in_nI ?_ ?_) <;> first | omega | decide))); (conv => whnf))
          | (refine And.intro (by first | with_reducible assumption | exact (show tL _ = _ from rfl) | decide) ?_; (conv => whnf))
          | ((with_reducible refine @And.intro (_ = _) _ ?_ ?_); (· rfl); (conv => whnf))
          | ((with_reducible refine @And.intro (@LE.le Nat _ _ _) _ ?_ ?_); (· (first | exact Nat.zero_le _ | exact Nat.le_of_ble_eq_true rfl | omega)); (conv => whnf))
          | ((with_reducible refine @And.intro (@LT.lt Nat _ _ _) _ ?_ ?_); (· omega); (conv => whnf))
          | ((with_reducible refine @And.intro (∃ _, _ = _) _ ?_ ?_); (· exact ⟨_, rfl⟩); (conv => whnf))
          | ((with_reducible refine @And.intro (_ ∨ _) _ ?_ ?_); (· (first | exact Or.inl rfl | exact Or.inr rfl | exact t_b01 _ | assumption)); (conv => whnf))
          | ((with_reducible refine @And.intro (¬ (_ = _)) _ ?_ ?_); (· first | assumption | (with_reducible assumption)); (conv => whnf))
          | (refine hX _ _ _ _ _ _ ?_; (conv => whnf); fail_if_success show False)
          | (rw [t_si]; (conv => whnf))
          | (refine ⟨_, rfl, ?_⟩; (conv => whnf))
          | (refine ⟨_, _, rfl, ?_⟩; (conv => whnf))
          | (refine ⟨_, _, _, rfl, ?_⟩; (conv => whnf))
          | (refine ⟨_, _, _, _, rfl, ?_⟩; (conv => whnf))
          | (rw [t_l200 (by first | with_reducible assumption | omega | exact vp_lt (by assumption) | (rw [nI_clamp (by omega)]; omega))]; (conv => whnf))
          | (refine And.intro (fun c => ?_) (fun c => ?_) <;> (first | (exact absurd c (by decide +kernel)) | (conv => whnf)))
          | fail)
        have := ih (k + 1) (by omega) (by omega) (xm_u2 J 34 r.length (t_by (nI z) u v)) (t_off.tr hJ t_off.u) (by rw [hev]; exact ⟨by rw [xm_u2_at, if_pos rfl], t_stk_u hk.2.2 (Nat.le_refl _)⟩)
        rw [hev] at this
        clear ih
        simp (disch := omega) only [xl_n, xl_m, nI_dec, nI_sb, xl_0, xl_1, tW_i, t_bn0, t_bn1, Classical.not_not, t_lt, nI_add, nI_1, pk_mul, nI_clamp, t_si, nI_eq, nI_leI, nM_ne, nM_ne, xm_set, xm_lv0, xm_psh, List.length_cons] at *
        exact this
      · have z2 : z < 2 := by
          clear hX hG ih
          simp (disch := omega) only [xl_n, xl_m, nI_dec, nI_sb, xl_0, xl_1, tW_i, t_bn0, t_bn1, Classical.not_not, t_lt, nI_add, nI_1, pk_mul, nI_clamp, t_si, nI_eq, nI_leI, nM_ne, nM_ne, eJ, e] at *
          omega
        repeat' (first
          | ((with_reducible refine @And.intro (vp_in _ _) _ ?_ ?_); (· (first | with_reducible assumption | ((with_reducible refine t_vin ?_); decide) | ((with_reducible refine vp_in_nI ?_ ?_) <;> first | omega | decide) | (simp (disch := omega) only [xl_n, xl_m, nI_dec, nI_sb, nI_add, pk_mul]; (with_reducible refine vp_in_nI ?_ ?_) <;> first | omega | decide))); (conv => whnf))
          | (refine And.intro (by first | with_reducible assumption | exact (show tL _ = _ from rfl) | decide) ?_; (conv => whnf))
          | ((with_reducible refine @And.intro (_ = _) _ ?_ ?_); (· rfl); (conv => whnf))
          | ((with_reducible refine @And.intro (@LE.le Nat _ _ _) _ ?_ ?_); (· (first | exact Nat.zero_le _ | exact Nat.le_of_ble_eq_true rfl | omega)); (conv => whnf))
          | ((with_reducible refine @And.intro (@LT.lt Nat _ _ _) _ ?_ ?_); (· omega); (conv => whnf))
          | ((with_reducible refine @And.intro (∃ _, _ = _) _ ?_ ?_); (· exact ⟨_, rfl⟩); (conv => whnf))
          | ((with_reducible refine @And.intro (_ ∨ _) _ ?_ ?_); (· (first | exact Or.inl rfl | exact Or.inr rfl | exact t_b01 _ | assumption)); (conv => whnf))
          | ((with_reducible refine @And.intro (¬ (_ = _)) _ ?_ ?_); (· first | assumption | (with_reducible assumption)); (conv => whnf))
          | (refine hX _ _ _ _ _ _ ?_; (conv => whnf); fail_if_success show False)
          | (rw [t_si]; (conv => whnf))
          | (refine ⟨_, rfl, ?_⟩; (conv => whnf))
          | (refine ⟨_, _, rfl, ?_⟩; (conv => whnf))
          | (refine ⟨_, _, _, rfl, ?_⟩; (conv => whnf))
          | (refine ⟨_, _, _, _, rfl, ?_⟩; (conv => whnf))
          | (rw [t_l200 (by first | with_reducible assumption | omega | exact vp_lt (by assumption) | (rw [nI_clamp (by omega)]; omega))]; (conv => whnf))
          | fail)
        refine And.intro (fun c3 => ?_) (fun c3 => ?_) <;> (conv => whnf)
        · repeat' (first
            | ((with_reducible refine @And.intro (vp_in _ _) _ ?_ ?_); (· (first | with_reducible assumption | ((with_reducible refine t_vin ?_); decide) | ((with_reducible refine vp_in_nI ?_ ?_) <;> first | omega | decide) | (simp (disch := omega) only [xl_n, xl_m, nI_dec, nI_sb, nI_add, pk_mul]; (with_reducible refine vp_in_nI ?_ ?_) <;> first | omega | decide))); (conv => whnf))
            | (refine And.intro (by first | with_reducible assumption | exact (show tL _ = _ from rfl) | decide) ?_; (conv => whnf))
            | ((with_reducible refine @And.intro (_ = _) _ ?_ ?_); (· rfl); (conv => whnf))
            | ((with_reducible refine @And.intro (@LE.le Nat _ _ _) _ ?_ ?_); (· (first | exact Nat.zero_le _ | exact Nat.le_of_ble_eq_true rfl | omega)); (conv => whnf))
            | ((with_reducible refine @And.intro (@LT.lt Nat _ _ _) _ ?_ ?_); (· omega); (conv => whnf))
            | ((with_reducible refine @And.intro (∃ _, _ = _) _ ?_ ?_); (· exact ⟨_, rfl⟩); (conv => whnf))
            | ((with_reducible refine @And.intro (_ ∨ _) _ ?_ ?_); (· (first | exact Or.inl rfl | exact Or.inr rfl | exact t_b01 _ | assumption)); (conv => whnf))
            | ((with_reducible refine @And.intro (¬ (_ = _)) _ ?_ ?_); (· first | assumption | (with_reducible assumption)); (conv => whnf))
            | (refine hX _ _ _ _ _ _ ?_; (conv => whnf); fail_if_success show False)
            | (rw [t_si]; (conv => whnf))
            | (refine ⟨_, rfl, ?_⟩; (conv => whnf))
            | (refine ⟨_, _, rfl, ?_⟩; (conv => whnf))
            | (refine ⟨_, _, _, rfl, ?_⟩; (conv => whnf))
            | (refine ⟨_, _, _, _, rfl, ?_⟩; (conv => whnf))
            | (rw [t_l200 (by first | with_reducible assumption | omega | exact vp_lt (by assumption) | (rw [nI_clamp (by omega)]; omega))]; (conv => whnf))
            | fail)
          have z1 : z = 1 := by
            clear hX hG ih
            simp (disch := omega) only [xl_n, xl_m, nI_dec, nI_sb, xl_0, xl_1, tW_i, t_bn0, t_bn1, Classical.not_not, t_lt, nI_add, nI_1, pk_mul, nI_clamp, t_si, nI_eq, nI_leI, nM_ne, nM_ne, eJ, e] at *
            omega
          obtain ⟨j, hj, e1⟩ := hz1 z1
          have e1' : J (200 + k) 1 = nI j := by rw [eJ]; exact e1
          subst z1
          have hev : t_ev I (I 35) (k + 1) = I 35 j :: t_ev I (I 35) k := by
            show (if _ then _ else _) = _
            rw [e, if_neg (by decide +kernel), if_pos rfl, e1, nI_clamp (by omega)]
          refine And.intro ?_ ?_
          · clear hX hG ih
            simp (disch := omega) only [xl_n, nI_clamp, tW_i, e1']
            exact vp_in_nI hj (by decide)
          (conv => whnf)
          repeat' (first
            | ((with_reducible refine @And.intro (vp_in _ _) _ ?_ ?_); (· (first | with_reducible assumption | ((with_reducible refine t_vin ?_); decide) | ((with_reducible refine vp_in_nI ?_ ?_) <;> first | omega | decide) | (simp (disch := omega) only [xl_n, xl_m, nI_dec, nI_sb, nI_add, pk_mul]; (with_reducible refine vp_in_nI ?_ ?_) <;> first | omega | decide))); (conv => whnf))
            | (refine And.intro (by first | with_reducible assumption | exact (show tL _ = _ from rfl) | decide) ?_; (conv => whnf))
            | ((with_reducible refine @And.intro (_ = _) _ ?_ ?_); (· rfl); (conv => whnf))
            | ((with_reducible refine @And.intro (@LE.le Nat _ _ _) _ ?_ ?_); (· (first | exact Nat.zero_le _ | exact Nat.le_of_ble_eq_true rfl | omega)); (conv => whnf))
            | ((with_reducible refine @And.intro (@LT.lt Nat _ _ _) _ ?_ ?_); (· omega); (conv => whnf))
            | ((with_reducible refine @And.intro (∃ _, _ = _) _ ?_ ?_); (· exact ⟨_, rfl⟩); (conv => whnf))
            | ((with_reducible refine @And.intro (_ ∨ _) _ ?_ ?_); (· (first | exact Or.inl rfl | exact Or.inr rfl | exact t_b01 _ | assumption)); (conv => whnf))
            | ((with_reducible refine @And.intro (¬ (_ = _)) _ ?_ ?_); (· first | assumption | (with_reducible assumption)); (conv => whnf))
            | (refine hX _ _ _ _ _ _ ?_; (conv => whnf); fail_if_success show False)
            | (rw [t_si]; (conv => whnf))
            | (refine ⟨_, rfl, ?_⟩; (conv => whnf))
            | (refine ⟨_, _, rfl, ?_⟩; (conv => whnf))
            | (refine ⟨_, _, _, rfl, ?_⟩; (conv => whnf))
            | (refine ⟨_, _, _, _, rfl, ?_⟩; (conv => whnf))
            | (rw [t_l200 (by first | with_reducible assumption | omega | exact vp_lt (by assumption) | (rw [nI_clamp (by omega)]; omega))]; (conv => whnf))
            | fail)
          have := ih (k + 1) (by omega) (by omega) (xm_u2 J 34 (t_ev I (I 35) k).length (I 35 j)) (t_off.tr hJ t_off.u) (by rw [hev]; exact ⟨by rw [xm_u2_at, if_pos rfl], t_stk_u hk (Nat.le_refl _)⟩)
          rw [hev] at this
          clear ih
          simp (disch := omega) only [xl_n, xl_m, nI_dec, nI_sb, xl_0, xl_1, tW_i, t_bn0, t_bn1, Classical.not_not, t_lt, nI_add, nI_1, pk_mul, nI_clamp, t_si, nI_eq, nI_leI, nM_ne, nM_ne, xm_set, xm_lv0, xm_psh, List.length_cons, e1'] at *
          rw [hJ 35 (by decide)]
          exact this
        · repeat' (first
            | ((with_reducible refine @And.intro (vp_in _ _) _ ?_ ?_); (· (first | with_reducible assumption | ((with_reducible refine t_vin ?_); decide) | ((with_reducible refine vp_in_nI ?_ ?_) <;> first | omega | decide) | (simp (disch := omega) only [xl_n, xl_m, nI_dec, nI_sb, nI_add, pk_mul]; (with_reducible refine vp_in_nI ?_ ?_) <;> first | omega | decide))); (conv => whnf))
            | (refine And.intro (by first | with_reducible assumption | exact (show tL _ = _ from rfl) | decide) ?_; (conv => whnf))
            | ((with_reducible refine @And.intro (_ = _) _ ?_ ?_); (· rfl); (conv => whnf))
            | ((with_reducible refine @And.intro (@LE.le Nat _ _ _) _ ?_ ?_); (· (first | exact Nat.zero_le _ | exact Nat.le_of_ble_eq_true rfl | omega)); (conv => whnf))
            | ((with_reducible refine @And.intro (@LT.lt Nat _ _ _) _ ?_ ?_); (· omega); (conv => whnf))
            | ((with_reducible refine @And.intro (∃ _, _ = _) _ ?_ ?_); (· exact ⟨_, rfl⟩); (conv => whnf))
            | ((with_reducible refine @And.intro (_ ∨ _) _ ?_ ?_); (· (first | exact Or.inl rfl | exact Or.inr rfl | exact t_b01 _ | assumption)); (conv => whnf))
            | ((with_reducible refine @And.intro (¬ (_ = _)) _ ?_ ?_); (· first | assumption | (with_reducible assumption)); (conv => whnf))
            | (refine hX _ _ _ _ _ _ ?_; (conv => whnf); fail_if_success show False)
            | (rw [t_si]; (conv => whnf))
            | (refine ⟨_, rfl, ?_⟩; (conv => whnf))
            | (refine ⟨_, _, rfl, ?_⟩; (conv => whnf))
            | (refine ⟨_, _, _, rfl, ?_⟩; (conv => whnf))
            | (refine ⟨_, _, _, _, rfl, ?_⟩; (conv => whnf))
            | (rw [t_l200 (by first | with_reducible assumption | omega | exact vp_lt (by assumption) | (rw [nI_clamp (by omega)]; omega))]; (conv => whnf))
            | fail)
          have z1 : z = 0 := by
            clear hX hG ih
            simp (disch := omega) only [xl_n, xl_m, nI_dec, nI_sb, xl_0, xl_1, tW_i, t_bn0, t_bn1, Classical.not_not, t_lt, nI_add, nI_1, pk_mul, nI_clamp, t_si, nI_eq, nI_leI, nM_ne, nM_ne, eJ, e] at *
            exact c3
          subst z1
          have hev : t_ev I (I 35) (k + 1) = I (200 + k) 1 :: t_ev I (I 35) k := by
            show (if _ then _ else _) = _
            rw [e, if_pos rfl]
          have := ih (k + 1) (by omega) (by omega) (xm_u2 J 34 (t_ev I (I 35) k).length (I (200 + k) 1)) (t_off.tr hJ t_off.u) (by rw [hev]; exact ⟨by rw [xm_u2_at, if_pos rfl], t_stk_u hk (Nat.le_refl _)⟩)
          rw [hev] at this
          clear ih
          simp (disch := omega) only [xl_n, xl_m, nI_dec, nI_sb, xl_0, xl_1, tW_i, t_bn0, t_bn1, Classical.not_not, t_lt, nI_add, nI_1, pk_mul, nI_clamp, t_si, nI_eq, nI_leI, nM_ne, nM_ne, xm_set, xm_lv0, xm_psh, List.length_cons, eJ] at *
          exact this
  refine ⟨rfl, ?_⟩
  repeat' (first
    | ((with_reducible refine @And.intro (vp_in _ _) _ ?_ ?_); (· (first | with_reducible assumption | ((with_reducible refine t_vin ?_); decide) | ((with_reducible refine vp_in_nI ?_ ?_) <;> first | omega | decide) | (simp (disch := omega) only [xl_n, xl_m, nI_dec, nI_sb, nI_add, pk_mul]; (with_reducible refine vp_in_nI ?_ ?_) <;> first | omega | decide))); (conv => whnf))
    | (refine And.intro (by first | with_reducible assumption | exact (show tL _ = _ from rfl) | decide) ?_; (conv => whnf))
    | ((with_reducible refine @And.intro (_ = _) _ ?_ ?_); (· rfl); (conv => whnf))
    | ((with_reducible refine @And.intro (@LE.le Nat _ _ _) _ ?_ ?_); (· (first | exact Nat.zero_le _ | exact Nat.le_of_ble_eq_true rfl | omega)); (conv => whnf))
    | ((with_reducible refine @And.intro (@LT.lt Nat _ _ _) _ ?_ ?_); (· omega); (conv => whnf))
    | ((with_reducible refine @And.intro (∃ _, _ = _) _ ?_ ?_); (· exact ⟨_, rfl⟩); (conv => whnf))
    | ((with_reducible refine @And.intro (_ ∨ _) _ ?_ ?_); (· (first | exact Or.inl rfl | exact Or.inr rfl | exact t_b01 _ | assumption)); (conv => whnf))
    | ((with_reducible refine @And.intro (¬ (_ = _)) _ ?_ ?_); (· first | assumption | (with_reducible assumption)); (conv => whnf))
    | (refine hX _ _ _ _ _ _ ?_; (conv => whnf); fail_if_success show False)
    | (rw [t_si]; (conv => whnf))
    | (refine ⟨_, rfl, ?_⟩; (conv => whnf))
    | (refine ⟨_, _, rfl, ?_⟩; (conv => whnf))
    | (refine ⟨_, _, _, rfl, ?_⟩; (conv => whnf))
    | (refine ⟨_, _, _, _, rfl, ?_⟩; (conv => whnf))
    | fail)
  refine And.intro (fun c0 => ?_) (fun c0 => ?_) <;> (conv => whnf)
  · repeat' (first
      | ((with_reducible refine @And.intro (vp_in _ _) _ ?_ ?_); (· (first | with_reducible assumption | ((with_reducible refine t_vin ?_); decide) | ((with_reducible refine vp_in_nI ?_ ?_) <;> first | omega | decide) | (simp (disch := omega) only [xl_n, xl_m, nI_dec, nI_sb, nI_add, pk_mul]; (with_reducible refine vp_in_nI ?_ ?_) <;> first | omega | decide))); (conv => whnf))
      | (refine And.intro (by first | with_reducible assumption | exact (show tL _ = _ from rfl) | decide) ?_; (conv => whnf))
      | ((with_reducible refine @And.intro (_ = _) _ ?_ ?_); (· rfl); (conv => whnf))
      | ((with_reducible refine @And.intro (@LE.le Nat _ _ _) _ ?_ ?_); (· (first | exact Nat.zero_le _ | exact Nat.le_of_ble_eq_true rfl | omega)); (conv => whnf))
      | ((with_reducible refine @And.intro (@LT.lt Nat _ _ _) _ ?_ ?_); (· omega); (conv => whnf))
      | ((with_reducible refine @And.intro (∃ _, _ = _) _ ?_ ?_); (· exact ⟨_, rfl⟩); (conv => whnf))
      | ((with_reducible refine @And.intro (_ ∨ _) _ ?_ ?_); (· (first | exact Or.inl rfl | exact Or.inr rfl | exact t_b01 _ | assumption)); (conv => whnf))
      | ((with_reducible refine @And.intro (¬ (_ = _)) _ ?_ ?_); (· first | assumption | (with_reducible assumption)); (conv => whnf))
      | (refine hX _ _ _ _ _ _ ?_; (conv => whnf); fail_if_success show False)
      | (rw [t_si]; (conv => whnf))
      | (refine ⟨_, rfl, ?_⟩; (conv => whnf))
      | (refine ⟨_, _, rfl, ?_⟩; (conv => whnf))
      | (refine ⟨_, _, _, rfl, ?_⟩; (conv => whnf))
      | (refine ⟨_, _, _, _, rfl, ?_⟩; (conv => whnf))
      | (refine And.intro (fun c => ?_) (fun c => ?_) <;> (first | (exact absurd c (by decide +kernel)) | (conv => whnf)))
      | fail)
    exact loop (fun z => c0 (by show I 0 27 = 0; rw [hn, z]; rfl)) 0 (Nat.zero_le _) I t_off.rf trivial
  · repeat' (first
      | ((with_reducible refine @And.intro (vp_in _ _) _ ?_ ?_); (· (first | with_reducible assumption | ((with_reducible refine t_vin ?_); decide) | ((with_reducible refine vp_in_nI ?_ ?_) <;> first | omega | decide) | (simp (disch := omega) only [xl_n, xl_m, nI_dec, nI_sb, nI_add, pk_mul]; (with_reducible refine vp_in_nI ?_ ?_) <;> first | omega | decide))); (conv => whnf))
      | (refine And.intro (by first | with_reducible assumption | exact (show tL _ = _ from rfl) | decide) ?_; (conv => whnf))
      | ((with_reducible refine @And.intro (_ = _) _ ?_ ?_); (· rfl); (conv => whnf))
      | ((with_reducible refine @And.intro (@LE.le Nat _ _ _) _ ?_ ?_); (· (first | exact Nat.zero_le _ | exact Nat.le_of_ble_eq_true rfl | omega)); (conv => whnf))
      | ((with_reducible refine @And.intro (@LT.lt Nat _ _ _) _ ?_ ?_); (· omega); (conv => whnf))
      | ((with_reducible refine @And.intro (∃ _, _ = _) _ ?_ ?_); (· exact ⟨_, rfl⟩); (conv => whnf))
      | ((with_reducible refine @And.intro (_ ∨ _) _ ?_ ?_); (· (first | exact Or.inl rfl | exact Or.inr rfl | exact t_b01 _ | assumption)); (conv => whnf))
      | ((with_reducible refine @And.intro (¬ (_ = _)) _ ?_ ?_); (· first | assumption | (with_reducible assumption)); (conv => whnf))
      | (refine hX _ _ _ _ _ _ ?_; (conv => whnf); fail_if_success show False)
      | (rw [t_si]; (conv => whnf))
      | (refine ⟨_, rfl, ?_⟩; (conv => whnf))
      | (refine ⟨_, _, rfl, ?_⟩; (conv => whnf))
      | (refine ⟨_, _, _, rfl, ?_⟩; (conv => whnf))
      | (refine ⟨_, _, _, _, rfl, ?_⟩; (conv => whnf))
      | (refine And.intro (fun c => ?_) (fun c => ?_) <;> (first | (exact absurd c (by decide +kernel)) | (conv => whnf)))
      | fail)
    refine t_q (hQ I t_off.rf) ?_
    clear hX hG
    simp (disch := omega) only [xl_n, xl_m, nI_dec, nI_sb, xl_0, xl_1, tW_i, t_bn0, t_bn1, Classical.not_not, t_lt, nI_add, nI_1, pk_mul, nI_clamp, t_si, nI_eq, nI_leI, nM_ne, nM_ne] at *
    simp [t_law, c0]
theorem ct_X11_byLaw {Iv : xI} (hI : xm_good Iv) : xm_Ct Iv yX11_byLaw (ws_ yX11_byLaw cX11_byLaw 3 (some .int)) 3 0 0 S_X11_byLaw := xm_enter (rt := 0) (init := false) (by decide +kernel) rfl (fun h => by cases h) (Or.inl ⟨rfl, rfl⟩) (oX11_byLaw hI) body_X11_byLaw
theorem cv_X11_byLaw {Iv : xI} {own : String} {cc : ByteArray} {fr pc idx : Nat} (hI : xm_good Iv) (hdg : decode cc pc = .ok (.invokevirtual idx, 3)) (hl : xm_ml own idx yX11_byLaw) (hfr : 3 < fr) : xm_CallOK Iv own cc fr pc (pc + 3) 1 0 0 (xm_this 8 S_X11_byLaw) := xm_callV 8 hI (ct_X11_byLaw hI) hdg hl q2353 qs93 q145 q2354 rfl rfl (by decide +kernel) hfr (by decide)

/-! ===== the reference: clauses ===== -/
set_option maxRecDepth 100000
theorem p_number_bl {f : Nat → Int32} {n k : Nat} {lo hi : Int32} (hk : k ≤ n) : p_number f n lo hi (p_bl f n k) = p_number f n lo hi k := by
  unfold p_number
  rw [p_bl_bl hk]
theorem p_number_in {f : Nat → Int32} {n k k' : Nat} {lo hi v : Int32} (hk : k ≤ n) (h : p_number f n lo hi k = .inr (v, k')) : t_in v lo hi = true ∧ k' ≤ n := by
  unfold p_number at h
  by_cases c1 : t_dig (p_at f n (p_bl f n k)) = true
  · rw [if_pos c1] at h
    by_cases c2 : t_in (p_nm f n (p_bl f n k) (nI 0)).1 lo hi = true
    · rw [if_pos c2] at h
      have e := Sum.inr.inj h
      rw [e] at c2
      refine ⟨c2, ?_⟩
      have := (p_nm_in (f := f) (n := n) (k := p_bl f n k) (v := nI 0) (Nat.le_refl _) (p_bl_in hk).2).2
      rw [e] at this
      exact this
    · rw [if_neg c2] at h
      cases h
  · rw [if_neg c1] at h
    cases h
theorem t_ps_e {I : tI} {n : Nat} {e : Int32 × Nat} (h : t_ps I n (.inl e)) : ¬ I 0 5 = 0 := by
  have h1 : I 0 5 = e.1 ∧ ¬ e.1 = nI 0 := ⟨h.1, h.2.1⟩
  rw [h1.1, ← nI_0]
  exact h1.2
theorem t_ps_0 {I : tI} {n k : Nat} (h : t_ps I n (.inr k)) : I 0 5 = 0 := by rw [h.1, nI_0]
theorem t_ps_bl {I : tI} {f : Nat → Int32} {n k : Nat} (h : t_ps I n (.inr k)) : t_ps (xm_u2 I 0 4 (nI (p_bl f n k))) n (.inr (p_bl f n k)) := ⟨by rw [xm_u2_at, if_neg (by decide)]; exact h.1, rfl, (p_bl_in h.2.2).2⟩
theorem t_ps_w {I : tI} {n k q : Nat} {v : Int32} (h : t_ps I n (.inr k)) (hv : ¬ v = nI 0) : t_ps (xm_u2 (xm_u2 I 0 5 v) 0 6 (nI q)) n (.inl (v, q)) := ⟨rfl, hv, rfl, k, h.2.2, h.2.1⟩
def p_other (f : Nat → Int32) (n : Nat) (F : tI) (but : Int32) (k : Nat) : pR Int32 := p_bd (p_number f n (nI 0) (F 11 0 - nI 1) k) fun g k' => if g = but then .inl (nI 2, p_bl f n k) else .inr (g, k')
abbrev bX11_otherHere_0 : List xE := [(.aload_n 0, 1, 0, 0, 0), (.getfield 150, 4, 8, 5, 0), (.ifCond .eq 5, 7, 0, 9, 0), (.iconst 0, 8, 0, 0, 0), (.ireturn, 9, 0, 0, 0)]
abbrev bX11_otherHere_9 : List xE := [(.aload_n 0, 10, 0, 0, 0), (.invokevirtual 236, 13, 0, 0, 9), (.istore_n 2, 14, 0, 0, 0), (.aload_n 0, 15, 0, 0, 0), (.invokevirtual 223, 18, 0, 1, 9), (.istore_n 3, 19, 0, 0, 0), (.aload_n 0, 20, 0, 0, 0), (.getfield 150, 23, 8, 5, 0), (.ifCond .ne 14, 26, 0, 37, 0), (.iload_n 3, 27, 0, 0, 0), (.iload_n 1, 28, 0, 0, 0), (.if_icmp .ne 9, 31, 0, 37, 0), (.aload_n 0, 32, 0, 0, 0), (.iconst 2, 33, 0, 0, 0), (.iload_n 2, 34, 0, 0, 0), (.invokevirtual 163, 37, 0, 2, 9)]
abbrev bX11_otherHere_37 : List xE := [(.iload_n 3, 38, 0, 0, 0), (.ireturn, 39, 0, 0, 0)]
abbrev kX11_otherHere : List (Nat × List xE) := [(0, bX11_otherHere_0), (9, bX11_otherHere_9), (37, bX11_otherHere_37)]
abbrev lX11_otherHere : List (Nat × Nat × Nat × xS) := [(1, 0, 0, xm_this 8 S_X11_placeHere), (1, 0, 0, xm_this 8 S_X11_handHere), (3, 0, 0, xm_this 8 S_X11_wrong)]
theorem oX11_otherHere_0 {Iv : xI} (hI : xm_good Iv)  : xm_okb Iv RX11 cX11_otherHere false 5 lX11_otherHere bX11_otherHere_0 0 := xo_0 dX11_otherHere_0 rfl trivial (xo_0 dX11_otherHere_1 rfl (xm_fg_of (Or.inl q1960) (by decide) rfl (by decide) rfl rfl (Or.inl rfl) rfl) (xo_0 dX11_otherHere_4 rfl rfl (xo_0 dX11_otherHere_7 rfl trivial (xo_0 dX11_otherHere_8 rfl trivial (xo_n)))))
theorem oX11_otherHere_9 {Iv : xI} (hI : xm_good Iv)  : xm_okb Iv RX11 cX11_otherHere false 5 lX11_otherHere bX11_otherHere_9 9 := xo_0 dX11_otherHere_9 rfl trivial (xo_c rfl (cv_X11_placeHere hI dX11_otherHere_10 (Or.inl q2198) (by decide)) (xo_0 dX11_otherHere_13 rfl trivial (xo_0 dX11_otherHere_14 rfl trivial (xo_c rfl (cv_X11_handHere hI dX11_otherHere_15 (Or.inl q2214) (by decide)) (xo_0 dX11_otherHere_18 rfl trivial (xo_0 dX11_otherHere_19 rfl trivial (xo_0 dX11_otherHere_20 rfl (xm_fg_of (Or.inl q1960) (by decide) rfl (by decide) rfl rfl (Or.inl rfl) rfl) (xo_0 dX11_otherHere_23 rfl rfl (xo_0 dX11_otherHere_26 rfl trivial (xo_0 dX11_otherHere_27 rfl trivial (xo_0 dX11_otherHere_28 rfl rfl (xo_0 dX11_otherHere_31 rfl trivial (xo_0 dX11_otherHere_32 rfl trivial (xo_0 dX11_otherHere_33 rfl trivial (xo_c rfl (cv_X11_wrong hI dX11_otherHere_34 (Or.inl q2178) (by decide)) (xo_n))))))))))))))))
theorem oX11_otherHere_37 {Iv : xI} (hI : xm_good Iv)  : xm_okb Iv RX11 cX11_otherHere false 5 lX11_otherHere bX11_otherHere_37 37 := xo_0 dX11_otherHere_37 rfl trivial (xo_0 dX11_otherHere_38 rfl trivial (xo_n))
theorem oX11_otherHere {Iv : xI} (hI : xm_good Iv)  : ∀ q ∈ kX11_otherHere, xm_okb Iv RX11 cX11_otherHere false 5 lX11_otherHere q.2 q.1 := by
  intro q hq
  simp only [List.mem_cons, List.not_mem_nil, or_false] at hq
  rcases hq with rfl | rfl | rfl
  · exact oX11_otherHere_0 hI  
  · exact oX11_otherHere_9 hI  
  · exact oX11_otherHere_37 hI  
def S_X11_otherHere : xS := tU fun as I Q => ∃ but, as = [.ref 0, .int but] ∧ ∃ f n, t_tx I f n ∧ ∃ p, t_ps I n p ∧ ∀ J v, t_pf I J → t_ps J n (p_st (p_go p (p_other f n I but))) → (∀ g k', p_go p (p_other f n I but) = .inr (g, k') → v = g) → Q (some (.int v)) J
theorem body_X11_otherHere : xm_Body 4 0 0 0 [] lX11_otherHere kX11_otherHere S_X11_otherHere := by
  intro X avs w Q QX hX0 hS
  have hG := xm_go [] hX0
  have hX := xm_go [] hX0
  clear hX0
  obtain ⟨I, rfl, but, rfl, f, n, ht, p, hp, hQ⟩ := hS
  match p, hp with
  | .inl (c, q), hp =>
    have h5 := t_ps_e hp
    refine ⟨rfl, ?_⟩
    repeat' (first
      | ((with_reducible refine @And.intro (vp_in _ _) _ ?_ ?_); (· (first | with_reducible assumption | ((with_reducible refine t_vin ?_); decide) | ((with_reducible refine vp_in_nI ?_ ?_) <;> first | omega | decide) | (simp (disch := omega) only [xl_n, xl_m, nI_dec, nI_sb, nI_add, pk_mul]; (with_reducible refine vp_in_nI ?_ ?_) <;> first | omega | decide))); (conv => whnf))
      | (refine And.intro (by first | with_reducible assumption | exact (show tL _ = _ from rfl) | decide) ?_; (conv => whnf))
      | ((with_reducible refine @And.intro (_ = _) _ ?_ ?_); (· rfl); (conv => whnf))
      | ((with_reducible refine @And.intro (@LE.le Nat _ _ _) _ ?_ ?_); (· (first | exact Nat.zero_le _ | exact Nat.le_of_ble_eq_true rfl | omega)); (conv => whnf))
      | ((with_reducible refine @And.intro (@LT.lt Nat _ _ _) _ ?_ ?_); (· omega); (conv => whnf))
      | ((with_reducible refine @And.intro (∃ _, _ = _) _ ?_ ?_); (· exact ⟨_, rfl⟩); (conv => whnf))
      | ((with_reducible refine @And.intro (_ ∨ _) _ ?_ ?_); (· (first | exact Or.inl rfl | exact Or.inr rfl | exact t_b01 _ | assumption)); (conv => whnf))
      | ((with_reducible refine @And.intro (¬ (_ = _)) _ ?_ ?_); (· first | assumption | (with_reducible assumption)); (conv => whnf))
      | (refine hX _ _ _ _ _ _ ?_; (conv => whnf); fail_if_success show False)
      | (rw [t_si]; (conv => whnf))
      | (refine ⟨_, rfl, ?_⟩; (conv => whnf))
      | (refine ⟨_, _, rfl, ?_⟩; (conv => whnf))
      | (refine ⟨_, _, _, rfl, ?_⟩; (conv => whnf))
      | (refine ⟨_, _, _, _, rfl, ?_⟩; (conv => whnf))
      | (refine ⟨_, _, (by with_reducible assumption), ?_⟩; (conv => whnf))
      | (refine ⟨_, (by first | with_reducible assumption | exact rfl), ?_⟩; (conv => whnf))
      | (refine And.intro (fun c => ?_) (fun c => ?_) <;> (first | (exact absurd c (by decide +kernel)) | (conv => whnf)))
      | fail)
    · exact absurd (by assumption) h5
    · exact hQ I _ t_pf.rf hp (fun g k' h => by cases h)
  | .inr k, hp =>
    have hp2 := t_ps_bl (f := f) hp
    have h5 := t_ps_0 hp
    obtain ⟨-, h4, hk⟩ := t_ps_n hp
    have hQ : ∀ J v, t_pf I J → t_ps J n (p_st (p_other f n I but k)) → (∀ g k', p_other f n I but k = .inr (g, k') → v = g) → Q (some (.int v)) (tW J) := hQ
    have hnb : p_number f n (nI 0) (I 11 0 - nI 1) (p_bl f n k) = p_number f n (nI 0) (I 11 0 - nI 1) k := p_number_bl hk
    unfold p_other at hQ
    generalize hb : p_bl f n k = b at hp2 hQ hnb
    have hW : t_pf I (xm_u2 I 0 4 (nI b)) := t_pf.u (Or.inl rfl)
    have htb := hW.tx ht
    refine ⟨rfl, ?_⟩
    repeat' (first
      | ((with_reducible refine @And.intro (vp_in _ _) _ ?_ ?_); (· (first | with_reducible assumption | ((with_reducible refine t_vin ?_); decide) | ((with_reducible refine vp_in_nI ?_ ?_) <;> first | omega | decide) | (simp (disch := omega) only [xl_n, xl_m, nI_dec, nI_sb, nI_add, pk_mul]; (with_reducible refine vp_in_nI ?_ ?_) <;> first | omega | decide))); (conv => whnf))
      | (refine And.intro (by first | with_reducible assumption | exact (show tL _ = _ from rfl) | decide) ?_; (conv => whnf))
      | ((with_reducible refine @And.intro (_ = _) _ ?_ ?_); (· rfl); (conv => whnf))
      | ((with_reducible refine @And.intro (@LE.le Nat _ _ _) _ ?_ ?_); (· (first | exact Nat.zero_le _ | exact Nat.le_of_ble_eq_true rfl | omega)); (conv => whnf))
      | ((with_reducible refine @And.intro (@LT.lt Nat _ _ _) _ ?_ ?_); (· omega); (conv => whnf))
      | ((with_reducible refine @And.intro (∃ _, _ = _) _ ?_ ?_); (· exact ⟨_, rfl⟩); (conv => whnf))
      | ((with_reducible refine @And.intro (_ ∨ _) _ ?_ ?_); (· (first | exact Or.inl rfl | exact Or.inr rfl | exact t_b01 _ | assumption)); (conv => whnf))
      | ((with_reducible refine @And.intro (¬ (_ = _)) _ ?_ ?_); (· first | assumption | (with_reducible assumption)); (conv => whnf))
      | (refine hX _ _ _ _ _ _ ?_; (conv => whnf); fail_if_success show False)
      | (rw [t_si]; (conv => whnf))
      | (refine ⟨_, rfl, ?_⟩; (conv => whnf))
      | (refine ⟨_, _, rfl, ?_⟩; (conv => whnf))
      | (refine ⟨_, _, _, rfl, ?_⟩; (conv => whnf))
      | (refine ⟨_, _, _, _, rfl, ?_⟩; (conv => whnf))
      | (rw [hb]; (conv => whnf))
      | (refine ⟨_, _, (by with_reducible assumption), ?_⟩; (conv => whnf))
      | (refine ⟨_, (by first | with_reducible assumption | exact rfl), ?_⟩; (conv => whnf))
      | (refine And.intro (fun c => ?_) (fun c => ?_) <;> (first | (exact absurd c (by decide +kernel)) | (exact absurd c (by assumption)) | (exact False.elim (c (by assumption))) | (conv => whnf)))
      | fail)
    · intro J hJ hps
      have hps : t_ps J n (p_st (p_number f n (nI 0) (I 11 0 - nI 1) b)) := hps
      rw [hnb] at hps
      have e0 : p_go (.inr b) (p_number f n (nI 0) (xm_u2 I 0 4 (nI b) 11 0 - nI 1)) = p_number f n (nI 0) (I 11 0 - nI 1) k := hnb
      (conv => whnf)
      rw [e0]
      clear e0 hnb
      cases hr : p_number f n (nI 0) (I 11 0 - nI 1) k with
      | inl e =>
        rw [hr] at hps hQ
        have h5J := t_ps_e hps
        repeat' (first
          | ((with_reducible refine @And.intro (vp_in _ _) _ ?_ ?_); (· (first | with_reducible assumption | ((with_reducible refine t_vin ?_); decide) | ((with_reducible refine vp_in_nI ?_ ?_) <;> first | omega | decide) | (simp (disch := omega) only [xl_n, xl_m, nI_dec, nI_sb, nI_add, pk_mul]; (with_reducible refine vp_in_nI ?_ ?_) <;> first | omega | decide))); (conv => whnf))
          | (refine And.intro (by first | with_reducible assumption | exact (show tL _ = _ from rfl) | decide) ?_; (conv => whnf))
          | ((with_reducible refine @And.intro (_ = _) _ ?_ ?_); (· rfl); (conv => whnf))
          | ((with_reducible refine @And.intro (@LE.le Nat _ _ _) _ ?_ ?_); (· (first | exact Nat.zero_le _ | exact Nat.le_of_ble_eq_true rfl | omega)); (conv => whnf))
          | ((with_reducible refine @And.intro (@LT.lt Nat _ _ _) _ ?_ ?_); (· omega); (conv => whnf))
          | ((with_reducible refine @And.intro (∃ _, _ = _) _ ?_ ?_); (· exact ⟨_, rfl⟩); (conv => whnf))
          | ((with_reducible refine @And.intro (_ ∨ _) _ ?_ ?_); (· (first | exact Or.inl rfl | exact Or.inr rfl | exact t_b01 _ | assumption)); (conv => whnf))
          | ((with_reducible refine @And.intro (¬ (_ = _)) _ ?_ ?_); (· first | assumption | (with_reducible assumption)); (conv => whnf))
          | (refine hX _ _ _ _ _ _ ?_; (conv => whnf); fail_if_success show False)
          | (rw [t_si]; (conv => whnf))
          | (refine ⟨_, rfl, ?_⟩; (conv => whnf))
          | (refine ⟨_, _, rfl, ?_⟩; (conv => whnf))
          | (refine ⟨_, _, _, rfl, ?_⟩; (conv => whnf))
          | (refine ⟨_, _, _, _, rfl, ?_⟩; (conv => whnf))
          | (refine ⟨_, _, (by with_reducible assumption), ?_⟩; (conv => whnf))
          | (refine ⟨_, (by first | with_reducible assumption | exact rfl), ?_⟩; (conv => whnf))
          | (refine And.intro (fun c => ?_) (fun c => ?_) <;> (first | (exact absurd c (by decide +kernel)) | (exact absurd c (by assumption)) | (exact False.elim (c (by assumption))) | (conv => whnf)))
          | fail)
        exact hQ J _ (hW.tr hJ) hps (fun g k' h => by cases h)
      | inr e =>
        obtain ⟨g, k'⟩ := e
        rw [hr] at hps hQ
        have h5J := t_ps_0 hps
        repeat' (first
          | ((with_reducible refine @And.intro (vp_in _ _) _ ?_ ?_); (· (first | with_reducible assumption | ((with_reducible refine t_vin ?_); decide) | ((with_reducible refine vp_in_nI ?_ ?_) <;> first | omega | decide) | (simp (disch := omega) only [xl_n, xl_m, nI_dec, nI_sb, nI_add, pk_mul]; (with_reducible refine vp_in_nI ?_ ?_) <;> first | omega | decide))); (conv => whnf))
          | (refine And.intro (by first | with_reducible assumption | exact (show tL _ = _ from rfl) | decide) ?_; (conv => whnf))
          | ((with_reducible refine @And.intro (_ = _) _ ?_ ?_); (· rfl); (conv => whnf))
          | ((with_reducible refine @And.intro (@LE.le Nat _ _ _) _ ?_ ?_); (· (first | exact Nat.zero_le _ | exact Nat.le_of_ble_eq_true rfl | omega)); (conv => whnf))
          | ((with_reducible refine @And.intro (@LT.lt Nat _ _ _) _ ?_ ?_); (· omega); (conv => whnf))
          | ((with_reducible refine @And.intro (∃ _, _ = _) _ ?_ ?_); (· exact ⟨_, rfl⟩); (conv => whnf))
          | ((with_reducible refine @And.intro (_ ∨ _) _ ?_ ?_); (· (first | exact Or.inl rfl | exact Or.inr rfl | exact t_b01 _ | assumption)); (conv => whnf))
          | ((with_reducible refine @And.intro (¬ (_ = _)) _ ?_ ?_); (· first | assumption | (with_reducible assumption)); (conv => whnf))
          | (refine hX _ _ _ _ _ _ ?_; (conv => whnf); fail_if_success show False)
          | (rw [t_si]; (conv => whnf))
          | (refine ⟨_, rfl, ?_⟩; (conv => whnf))
          | (refine ⟨_, _, rfl, ?_⟩; (conv => whnf))
          | (refine ⟨_, _, _, rfl, ?_⟩; (conv => whnf))
          | (refine ⟨_, _, _, _, rfl, ?_⟩; (conv => whnf))
          | (refine ⟨_, _, (by with_reducible assumption), ?_⟩; (conv => whnf))
          | (refine ⟨_, (by first | with_reducible assumption | exact rfl), ?_⟩; (conv => whnf))
          | (refine And.intro (fun c => ?_) (fun c => ?_) <;> (first | (exact absurd c (by decide +kernel)) | (exact absurd c (by assumption)) | (exact False.elim (c (by assumption))) | (conv => whnf)))
          | fail)
        · have hne : ¬ g = but := by assumption
          have e1 : p_bd (α := Int32) (β := Int32) (.inr (g, k')) (fun g k' => if g = but then .inl (nI 2, b) else .inr (g, k')) = .inr (g, k') := if_neg hne
          rw [e1] at hQ
          exact hQ J _ (hW.tr hJ) hps (fun g k' h => by rw [h]; rfl)
        · have he : g = but := Classical.not_not.mp (by assumption)
          have e1 : p_bd (α := Int32) (β := Int32) (.inr (g, k')) (fun g k' => if g = but then .inl (nI 2, b) else .inr (g, k')) = .inl (nI 2, b) := if_pos he
          rw [e1] at hQ
          refine hQ _ _ (hW.tr (hJ.tr ((t_pf.u (Or.inr (Or.inl rfl))).tr (t_pf.u (Or.inr (Or.inr rfl)))))) ?_ (fun g k' h => by cases h)
          exact t_ps_w hps (by decide +kernel)
theorem ct_X11_otherHere {Iv : xI} (hI : xm_good Iv) : xm_Ct Iv yX11_otherHere (ws_ yX11_otherHere cX11_otherHere 4 (some .int)) 5 0 0 S_X11_otherHere := xm_enter (rt := 0) (init := false) (by decide +kernel) rfl (fun h => by cases h) (Or.inl ⟨rfl, rfl⟩) (oX11_otherHere hI) body_X11_otherHere
theorem cv_X11_otherHere {Iv : xI} {own : String} {cc : ByteArray} {fr pc idx : Nat} (hI : xm_good Iv) (hdg : decode cc pc = .ok (.invokevirtual idx, 3)) (hl : xm_ml own idx yX11_otherHere) (hfr : 5 < fr) : xm_CallOK Iv own cc fr pc (pc + 3) 2 0 0 (xm_this 8 S_X11_otherHere) := xm_callV 8 hI (ct_X11_otherHere hI) hdg hl q2227 qs71 q145 q2228 rfl rfl (by decide +kernel) hfr (by decide)
def p_pup (f : Nat → Int32) (n : Nat) (F : tI) (k : Nat) : pR Int32 := p_number f n (nI 0) (F 11 1 - nI 1) k
def p_hnd (f : Nat → Int32) (n : Nat) (F : tI) (k : Nat) : pR Int32 := p_number f n (nI 0) (F 11 0 - nI 1) k
def p_born (f : Nat → Int32) (n : Nat) (F : tI) (r : Nat) (k : Nat) : pR tI :=
  p_bd (p_number f n (nI 0) (nI 9) k) fun v0 k => p_bd (p_number f n (nI 0) (nI 40) k) fun v1 k => p_bd (p_number f n (nI 0) (nI 60) k) fun v2 k' =>
  if ¬ v2 = nI 0 ∧ v2 ≤ v1 then .inl (nI 2, p_bl f n k) else .inr (xm_u2 (xm_u2 (xm_u2 F r 0 v0) r 1 v1) r 2 v2, k')
/-- what a clause owes -/
def t_out (J : tI) (n : Nat) (r : pR tI) : Prop := match r with
  | .inl e => t_ps J n (.inl e)
  | .inr (F, k) => t_ps J n (.inr k) ∧ t_rea J F
theorem t_ps_u {J : tI} {n b k : Nat} {p : pP} {v : Int32} (h : t_ps J n p) (hb : b ≠ 0) : t_ps (xm_u2 J b k v) n p := by
  have e : ∀ j, xm_u2 J b k v 0 j = J 0 j := fun j => xm_u2_ne (fun q => hb q.symm) j
  unfold t_ps at h ⊢
  rw [e, e, e]
  exact h
theorem t_tx_u {J : tI} {f : Nat → Int32} {n b k : Nat} {v : Int32} (h : t_tx J f n) (hb : b ≠ 0) (h9 : b ≠ 9) : t_tx (xm_u2 J b k v) f n := by
  have e : ∀ j, xm_u2 J b k v 0 j = J 0 j := fun j => xm_u2_ne (fun q => hb q.symm) j
  have e9 : ∀ j, xm_u2 J b k v 9 j = J 9 j := fun j => xm_u2_ne (fun q => h9 q.symm) j
  exact ⟨(e 2).trans h.1, h.2.1, fun k hk => (e9 k).trans (h.2.2 k hk)⟩
theorem t_rf.w {I J : tI} {b k : Nat} {v : Int32} (h : t_rf I J) (hb : t_rr b) : t_rf I (xm_u2 J b k v) := h.tr (t_rf.u hb)
theorem p_inl {n : Nat} {J : tI} {e : Int32 × Nat} {g : Nat → pR Int32} (h : t_ps J n (p_st (p_go (.inl e) g))) : t_ps J n (.inl e) := h
theorem t_fok.u {F : tI} {b k : Nat} {v : Int32} (h : t_fok F) (hb : b ≠ 11) : t_fok (xm_u2 F b k v) := by
  have e : ∀ j, xm_u2 F b k v 11 j = F 11 j := fun j => xm_u2_ne (fun q => hb q.symm) j
  unfold t_fok f_h f_p f_a at h ⊢
  rw [e, e, e]
  exact h
abbrev bX11_bornHere_0 : List xE := [(.aload_n 1, 1, 0, 0, 0), (.iconst 0, 2, 0, 0, 0), (.aload_n 0, 3, 0, 0, 0), (.iconst 0, 4, 0, 0, 0), (.bipush 9, 6, 0, 0, 0), (.invokevirtual 202, 9, 0, 0, 9), (.iastore, 10, 0, 0, 0), (.aload_n 1, 11, 0, 0, 0), (.iconst 1, 12, 0, 0, 0), (.aload_n 0, 13, 0, 0, 0), (.iconst 0, 14, 0, 0, 0), (.bipush 40, 16, 0, 0, 0), (.invokevirtual 202, 19, 0, 0, 9), (.iastore, 20, 0, 0, 0), (.aload_n 0, 21, 0, 0, 0), (.getfield 150, 24, 8, 5, 0), (.ifCond .eq 4, 27, 0, 28, 0), (.return_, 28, 0, 0, 0)]
abbrev bX11_bornHere_28 : List xE := [(.aload_n 0, 29, 0, 0, 0), (.invokevirtual 236, 32, 0, 1, 9), (.istore_n 2, 33, 0, 0, 0), (.aload_n 1, 34, 0, 0, 0), (.iconst 2, 35, 0, 0, 0), (.aload_n 0, 36, 0, 0, 0), (.iconst 0, 37, 0, 0, 0), (.bipush 60, 39, 0, 0, 0), (.invokevirtual 202, 42, 0, 0, 9), (.iastore, 43, 0, 0, 0), (.aload_n 0, 44, 0, 0, 0), (.getfield 150, 47, 8, 5, 0), (.ifCond .ne 24, 50, 0, 71, 0), (.aload_n 1, 51, 0, 0, 0), (.iconst 2, 52, 0, 0, 0), (.iaload, 53, 0, 0, 0), (.ifCond .eq 18, 56, 0, 71, 0), (.aload_n 1, 57, 0, 0, 0), (.iconst 2, 58, 0, 0, 0), (.iaload, 59, 0, 0, 0), (.aload_n 1, 60, 0, 0, 0), (.iconst 1, 61, 0, 0, 0), (.iaload, 62, 0, 0, 0), (.if_icmp .gt 9, 65, 0, 71, 0), (.aload_n 0, 66, 0, 0, 0), (.iconst 2, 67, 0, 0, 0), (.iload_n 2, 68, 0, 0, 0), (.invokevirtual 163, 71, 0, 2, 9)]
abbrev bX11_bornHere_71 : List xE := [(.return_, 72, 0, 0, 0)]
abbrev kX11_bornHere : List (Nat × List xE) := [(0, bX11_bornHere_0), (28, bX11_bornHere_28), (71, bX11_bornHere_71)]
abbrev lX11_bornHere : List (Nat × Nat × Nat × xS) := [(3, 0, 0, xm_this 8 S_X11_number), (1, 0, 0, xm_this 8 S_X11_placeHere), (3, 0, 0, xm_this 8 S_X11_wrong)]
theorem oX11_bornHere_0 {Iv : xI} (hI : xm_good Iv)  : xm_okb Iv RX11 cX11_bornHere false 4 lX11_bornHere bX11_bornHere_0 0 := xo_0 dX11_bornHere_0 rfl trivial (xo_0 dX11_bornHere_1 rfl trivial (xo_0 dX11_bornHere_2 rfl trivial (xo_0 dX11_bornHere_3 rfl trivial (xo_0 dX11_bornHere_4 rfl (xo_bipush (by decide +kernel)) (xo_c rfl (cv_X11_number hI dX11_bornHere_6 (Or.inl q2190) (by decide)) (xo_0 dX11_bornHere_9 rfl trivial (xo_0 dX11_bornHere_10 rfl trivial (xo_0 dX11_bornHere_11 rfl trivial (xo_0 dX11_bornHere_12 rfl trivial (xo_0 dX11_bornHere_13 rfl trivial (xo_0 dX11_bornHere_14 rfl (xo_bipush (by decide +kernel)) (xo_c rfl (cv_X11_number hI dX11_bornHere_16 (Or.inl q2190) (by decide)) (xo_0 dX11_bornHere_19 rfl trivial (xo_0 dX11_bornHere_20 rfl trivial (xo_0 dX11_bornHere_21 rfl (xm_fg_of (Or.inl q1960) (by decide) rfl (by decide) rfl rfl (Or.inl rfl) rfl) (xo_0 dX11_bornHere_24 rfl rfl (xo_0 dX11_bornHere_27 rfl trivial (xo_n))))))))))))))))))
theorem oX11_bornHere_28 {Iv : xI} (hI : xm_good Iv)  : xm_okb Iv RX11 cX11_bornHere false 4 lX11_bornHere bX11_bornHere_28 28 := xo_0 dX11_bornHere_28 rfl trivial (xo_c rfl (cv_X11_placeHere hI dX11_bornHere_29 (Or.inl q2198) (by decide)) (xo_0 dX11_bornHere_32 rfl trivial (xo_0 dX11_bornHere_33 rfl trivial (xo_0 dX11_bornHere_34 rfl trivial (xo_0 dX11_bornHere_35 rfl trivial (xo_0 dX11_bornHere_36 rfl trivial (xo_0 dX11_bornHere_37 rfl (xo_bipush (by decide +kernel)) (xo_c rfl (cv_X11_number hI dX11_bornHere_39 (Or.inl q2190) (by decide)) (xo_0 dX11_bornHere_42 rfl trivial (xo_0 dX11_bornHere_43 rfl trivial (xo_0 dX11_bornHere_44 rfl (xm_fg_of (Or.inl q1960) (by decide) rfl (by decide) rfl rfl (Or.inl rfl) rfl) (xo_0 dX11_bornHere_47 rfl rfl (xo_0 dX11_bornHere_50 rfl trivial (xo_0 dX11_bornHere_51 rfl trivial (xo_0 dX11_bornHere_52 rfl trivial (xo_0 dX11_bornHere_53 rfl rfl (xo_0 dX11_bornHere_56 rfl trivial (xo_0 dX11_bornHere_57 rfl trivial (xo_0 dX11_bornHere_58 rfl trivial (xo_0 dX11_bornHere_59 rfl trivial (xo_0 dX11_bornHere_60 rfl trivial (xo_0 dX11_bornHere_61 rfl trivial (xo_0 dX11_bornHere_62 rfl rfl (xo_0 dX11_bornHere_65 rfl trivial (xo_0 dX11_bornHere_66 rfl trivial (xo_0 dX11_bornHere_67 rfl trivial (xo_c rfl (cv_X11_wrong hI dX11_bornHere_68 (Or.inl q2178) (by decide)) (xo_n))))))))))))))))))))))))))))
theorem oX11_bornHere_71 {Iv : xI} (hI : xm_good Iv)  : xm_okb Iv RX11 cX11_bornHere false 4 lX11_bornHere bX11_bornHere_71 71 := xo_0 dX11_bornHere_71 rfl trivial (xo_n)
theorem oX11_bornHere {Iv : xI} (hI : xm_good Iv)  : ∀ q ∈ kX11_bornHere, xm_okb Iv RX11 cX11_bornHere false 4 lX11_bornHere q.2 q.1 := by
  intro q hq
  simp only [List.mem_cons, List.not_mem_nil, or_false] at hq
  rcases hq with rfl | rfl | rfl
  · exact oX11_bornHere_0 hI  
  · exact oX11_bornHere_28 hI  
  · exact oX11_bornHere_71 hI  
def S_X11_bornHere : xS := tU fun as I Q => ∃ h : Nat, as = [.ref 0, .ref (100 + h)] ∧ h < 9 ∧ ∃ f n, t_tx I f n ∧ ∃ k, t_ps I n (.inr k) ∧ ∃ F, t_fok F ∧ t_rea I F ∧ ∀ J, t_rf I J → t_out J n (p_born f n F (100 + h) k) → (∀ F' k', p_born f n F (100 + h) k = .inr (F', k') → ∀ i, i < 3 → J (100 + h) i = F' (100 + h) i) → Q none J
theorem body_X11_bornHere : xm_Body 3 2 0 0 [] lX11_bornHere kX11_bornHere S_X11_bornHere := by
  intro X avs w Q QX hX0 hS
  have hG := xm_go [] hX0
  have hX := xm_go [] hX0
  clear hX0
  obtain ⟨I, rfl, h, rfl, hh, f, n, ht, k, hp, F, hF, hr, hQ⟩ := hS
  have hrr : t_rr (100 + h) := by unfold t_rr; omega
  have hb0 : 100 + h ≠ 0 := by omega
  have hb9 : 100 + h ≠ 9 := by omega
  obtain ⟨-, -, hk⟩ := t_ps_n hp
  obtain ⟨R, hR⟩ : ∃ R, R = p_born f n F (100 + h) k := ⟨_, rfl⟩
  rw [← hR] at hQ
  unfold p_born at hR
  refine ⟨rfl, ?_⟩
  repeat' (first
    | ((with_reducible refine @And.intro (vp_in _ _) _ ?_ ?_); (· (first | with_reducible assumption | ((with_reducible refine t_vin ?_); decide) | ((with_reducible refine vp_in_nI ?_ ?_) <;> first | omega | decide) | (simp (disch := omega) only [xl_n, xl_m, nI_dec, nI_sb, nI_add, pk_mul]; (with_reducible refine vp_in_nI ?_ ?_) <;> first | omega | decide))); (conv => whnf))
    | (refine And.intro (by first | with_reducible assumption | exact (show tL _ = _ from rfl) | decide) ?_; (conv => whnf))
    | ((with_reducible refine @And.intro (_ = _) _ ?_ ?_); (· rfl); (conv => whnf))
    | ((with_reducible refine @And.intro (@LE.le Nat _ _ _) _ ?_ ?_); (· (first | exact Nat.zero_le _ | exact Nat.le_of_ble_eq_true rfl | omega)); (conv => whnf))
    | ((with_reducible refine @And.intro (@LT.lt Nat _ _ _) _ ?_ ?_); (· omega); (conv => whnf))
    | ((with_reducible refine @And.intro (∃ _, _ = _) _ ?_ ?_); (· exact ⟨_, rfl⟩); (conv => whnf))
    | ((with_reducible refine @And.intro (_ ∨ _) _ ?_ ?_); (· (first | exact Or.inl rfl | exact Or.inr rfl | exact t_b01 _ | assumption)); (conv => whnf))
    | ((with_reducible refine @And.intro (¬ (_ = _)) _ ?_ ?_); (· first | assumption | (with_reducible assumption)); (conv => whnf))
    | (refine hX _ _ _ _ _ _ ?_; (conv => whnf); fail_if_success show False)
    | (rw [t_si]; (conv => whnf))
    | (refine ⟨_, rfl, ?_⟩; (conv => whnf))
    | (refine ⟨_, _, rfl, ?_⟩; (conv => whnf))
    | (refine ⟨_, _, _, rfl, ?_⟩; (conv => whnf))
    | (refine ⟨_, _, _, _, rfl, ?_⟩; (conv => whnf))
    | (refine ⟨_, _, (by with_reducible assumption), ?_⟩; (conv => whnf))
    | (refine ⟨_, (by first | with_reducible assumption | exact rfl), ?_⟩; (conv => whnf))
    | (refine And.intro (fun c => ?_) (fun c => ?_) <;> (first | (exact absurd c (by decide +kernel)) | (exact absurd c (by assumption)) | (exact False.elim (c (by assumption))) | (conv => whnf)))
    | fail)
  intro J hJ hps
  simp only [xl_n] at hps ⊢
  have htJ := hJ.tx ht
  have hrJ := hJ.d hr
  have hJ := hJ.r
  (conv => whnf)
  cases hr0 : p_go (.inr k) (p_number f n (nI 0) (nI 9)) with
  | inl e =>
    rw [hr0] at hps
    have hps : t_ps J n (.inl e) := hps
    have hps1 := t_ps_u (k := 0) (v := p_v (.inl e)) hps hb0
    have htJ1 := t_tx_u (k := 0) (v := p_v (.inl e)) htJ hb0 hb9
    rw [show p_number f n (nI 0) (nI 9) k = .inl e from hr0] at hR
    have hR : R = .inl e := hR
    subst hR
    repeat' (first
      | ((with_reducible refine @And.intro (vp_in _ _) _ ?_ ?_); (· (first | with_reducible assumption | ((with_reducible refine t_vin ?_); decide) | ((with_reducible refine vp_in_nI ?_ ?_) <;> first | omega | decide) | (simp (disch := omega) only [xl_n, xl_m, nI_dec, nI_sb, nI_add, pk_mul]; (with_reducible refine vp_in_nI ?_ ?_) <;> first | omega | decide))); (conv => whnf))
      | (refine And.intro (by first | with_reducible assumption | exact (show tL _ = _ from rfl) | decide) ?_; (conv => whnf))
      | ((with_reducible refine @And.intro (_ = _) _ ?_ ?_); (· rfl); (conv => whnf))
      | ((with_reducible refine @And.intro (@LE.le Nat _ _ _) _ ?_ ?_); (· (first | exact Nat.zero_le _ | exact Nat.le_of_ble_eq_true rfl | omega)); (conv => whnf))
      | ((with_reducible refine @And.intro (@LT.lt Nat _ _ _) _ ?_ ?_); (· omega); (conv => whnf))
      | ((with_reducible refine @And.intro (∃ _, _ = _) _ ?_ ?_); (· exact ⟨_, rfl⟩); (conv => whnf))
      | ((with_reducible refine @And.intro (_ ∨ _) _ ?_ ?_); (· (first | exact Or.inl rfl | exact Or.inr rfl | exact t_b01 _ | assumption)); (conv => whnf))
      | ((with_reducible refine @And.intro (¬ (_ = _)) _ ?_ ?_); (· first | assumption | (with_reducible assumption)); (conv => whnf))
      | (refine hX _ _ _ _ _ _ ?_; (conv => whnf); fail_if_success show False)
      | (rw [t_si]; simp (disch := omega) only [xl_n, xl_m, nI_dec, nI_sb, xl_0, xl_1, tW_i, t_bn0, t_bn1, Classical.not_not, t_lt, nI_add, nI_1, pk_mul, nI_clamp, t_si, nI_eq, nI_leI, nM_ne, nM_ne, xm_u2_ne, xm_u2_at, reduceIte, tK_u, tA_u, Nat.reduceEqDiff]; (conv => whnf))
      | (refine ⟨_, rfl, ?_⟩; (conv => whnf))
      | (refine ⟨_, _, rfl, ?_⟩; (conv => whnf))
      | (refine ⟨_, _, _, rfl, ?_⟩; (conv => whnf))
      | (refine ⟨_, _, _, _, rfl, ?_⟩; (conv => whnf))
      | (rw [t_l100 (by first | with_reducible assumption | omega | exact vp_lt (by assumption) | (rw [nI_clamp (by omega)]; omega))]; (conv => whnf))
      | (refine ⟨_, _, (by with_reducible assumption), ?_⟩; (conv => whnf))
      | (refine ⟨_, (by first | with_reducible assumption | exact rfl), ?_⟩; (conv => whnf))
      | (refine And.intro (fun c => ?_) (fun c => ?_) <;> (first | (exact absurd c (by decide +kernel)) | (exact absurd c (by assumption)) | (exact False.elim (c (by assumption))) | (conv => whnf)))
      | fail)
    intro J2 hJ2 hps2
    have hps2 : t_ps J2 n (.inl e) := hps2
    have h5 := t_ps_e hps2
    (conv => whnf)
    repeat' (first
      | ((with_reducible refine @And.intro (vp_in _ _) _ ?_ ?_); (· (first | with_reducible assumption | ((with_reducible refine t_vin ?_); decide) | ((with_reducible refine vp_in_nI ?_ ?_) <;> first | omega | decide) | (simp (disch := omega) only [xl_n, xl_m, nI_dec, nI_sb, nI_add, pk_mul]; (with_reducible refine vp_in_nI ?_ ?_) <;> first | omega | decide))); (conv => whnf))
      | (refine And.intro (by first | with_reducible assumption | exact (show tL _ = _ from rfl) | decide) ?_; (conv => whnf))
      | ((with_reducible refine @And.intro (_ = _) _ ?_ ?_); (· rfl); (conv => whnf))
      | ((with_reducible refine @And.intro (@LE.le Nat _ _ _) _ ?_ ?_); (· (first | exact Nat.zero_le _ | exact Nat.le_of_ble_eq_true rfl | omega)); (conv => whnf))
      | ((with_reducible refine @And.intro (@LT.lt Nat _ _ _) _ ?_ ?_); (· omega); (conv => whnf))
      | ((with_reducible refine @And.intro (∃ _, _ = _) _ ?_ ?_); (· exact ⟨_, rfl⟩); (conv => whnf))
      | ((with_reducible refine @And.intro (_ ∨ _) _ ?_ ?_); (· (first | exact Or.inl rfl | exact Or.inr rfl | exact t_b01 _ | assumption)); (conv => whnf))
      | ((with_reducible refine @And.intro (¬ (_ = _)) _ ?_ ?_); (· first | assumption | (with_reducible assumption)); (conv => whnf))
      | (refine hX _ _ _ _ _ _ ?_; (conv => whnf); fail_if_success show False)
      | (rw [t_si]; simp (disch := omega) only [xl_n, xl_m, nI_dec, nI_sb, xl_0, xl_1, tW_i, t_bn0, t_bn1, Classical.not_not, t_lt, nI_add, nI_1, pk_mul, nI_clamp, t_si, nI_eq, nI_leI, nM_ne, nM_ne, xm_u2_ne, xm_u2_at, reduceIte, tK_u, tA_u, Nat.reduceEqDiff]; (conv => whnf))
      | (refine ⟨_, rfl, ?_⟩; (conv => whnf))
      | (refine ⟨_, _, rfl, ?_⟩; (conv => whnf))
      | (refine ⟨_, _, _, rfl, ?_⟩; (conv => whnf))
      | (refine ⟨_, _, _, _, rfl, ?_⟩; (conv => whnf))
      | (rw [t_l100 (by first | with_reducible assumption | omega | exact vp_lt (by assumption) | (rw [nI_clamp (by omega)]; omega))]; (conv => whnf))
      | (refine ⟨_, _, (by with_reducible assumption), ?_⟩; (conv => whnf))
      | (refine ⟨_, (by first | with_reducible assumption | exact rfl), ?_⟩; (conv => whnf))
      | (refine And.intro (fun c => ?_) (fun c => ?_) <;> (first | (exact absurd c (by decide +kernel)) | (exact absurd c (by assumption)) | (exact False.elim (c (by assumption))) | (conv => whnf)))
      | fail)
    exact hQ _ (((hJ.w hrr).tr hJ2.r).w hrr) (t_ps_u hps2 hb0) (fun F' k' h => by cases h)
  | inr e =>
    obtain ⟨v0, k0⟩ := e
    rw [hr0] at hps
    have hps : t_ps J n (.inr k0) := hps
    have hps1 := t_ps_u (k := 0) (v := p_v (.inr (v0, k0))) hps hb0
    have htJ1 := t_tx_u (k := 0) (v := p_v (.inr (v0, k0))) htJ hb0 hb9
    have hrJ1 : t_rea (xm_u2 J (100 + h) 0 v0) (xm_u2 F (100 + h) 0 v0) := hrJ.u (Or.inl (by omega)) (by omega) hF
    repeat' (first
      | ((with_reducible refine @And.intro (vp_in _ _) _ ?_ ?_); (· (first | with_reducible assumption | ((with_reducible refine t_vin ?_); decide) | ((with_reducible refine vp_in_nI ?_ ?_) <;> first | omega | decide) | (simp (disch := omega) only [xl_n, xl_m, nI_dec, nI_sb, nI_add, pk_mul]; (with_reducible refine vp_in_nI ?_ ?_) <;> first | omega | decide))); (conv => whnf))
      | (refine And.intro (by first | with_reducible assumption | exact (show tL _ = _ from rfl) | decide) ?_; (conv => whnf))
      | ((with_reducible refine @And.intro (_ = _) _ ?_ ?_); (· rfl); (conv => whnf))
      | ((with_reducible refine @And.intro (@LE.le Nat _ _ _) _ ?_ ?_); (· (first | exact Nat.zero_le _ | exact Nat.le_of_ble_eq_true rfl | omega)); (conv => whnf))
      | ((with_reducible refine @And.intro (@LT.lt Nat _ _ _) _ ?_ ?_); (· omega); (conv => whnf))
      | ((with_reducible refine @And.intro (∃ _, _ = _) _ ?_ ?_); (· exact ⟨_, rfl⟩); (conv => whnf))
      | ((with_reducible refine @And.intro (_ ∨ _) _ ?_ ?_); (· (first | exact Or.inl rfl | exact Or.inr rfl | exact t_b01 _ | assumption)); (conv => whnf))
      | ((with_reducible refine @And.intro (¬ (_ = _)) _ ?_ ?_); (· first | assumption | (with_reducible assumption)); (conv => whnf))
      | (refine hX _ _ _ _ _ _ ?_; (conv => whnf); fail_if_success show False)
      | (rw [t_si]; simp (disch := omega) only [xl_n, xl_m, nI_dec, nI_sb, xl_0, xl_1, tW_i, t_bn0, t_bn1, Classical.not_not, t_lt, nI_add, nI_1, pk_mul, nI_clamp, t_si, nI_eq, nI_leI, nM_ne, nM_ne, xm_u2_ne, xm_u2_at, reduceIte, tK_u, tA_u, Nat.reduceEqDiff]; (conv => whnf))
      | (refine ⟨_, rfl, ?_⟩; (conv => whnf))
      | (refine ⟨_, _, rfl, ?_⟩; (conv => whnf))
      | (refine ⟨_, _, _, rfl, ?_⟩; (conv => whnf))
      | (refine ⟨_, _, _, _, rfl, ?_⟩; (conv => whnf))
      | (rw [t_l100 (by first | with_reducible assumption | omega | exact vp_lt (by assumption) | (rw [nI_clamp (by omega)]; omega))]; (conv => whnf))
      | (refine ⟨_, _, (by with_reducible assumption), ?_⟩; (conv => whnf))
      | (refine ⟨_, (by first | with_reducible assumption | exact rfl), ?_⟩; (conv => whnf))
      | (refine And.intro (fun c => ?_) (fun c => ?_) <;> (first | (exact absurd c (by decide +kernel)) | (exact absurd c (by assumption)) | (exact False.elim (c (by assumption))) | (conv => whnf)))
      | fail)
    intro J2 hJ2 hps2
    rw [show p_number f n (nI 0) (nI 9) k = .inr (v0, k0) from hr0] at hR
    have hR : R = p_bd (p_number f n (nI 0) (nI 40) k0) _ := hR
    clear hr0
    have htJ2 := hJ2.tx htJ1
    have hrJ2 := hJ2.d hrJ1
    have e20 : J2 (100 + h) 0 = v0 := (congrFun (hJ2.1 _ hb0) 0).trans (by rw [xm_u2_at, if_pos rfl]; rfl)
    have hJ2 := (hJ.w hrr).tr hJ2.r
    clear htJ1 hrJ1 hps1
    (conv => whnf)
    cases hr1 : p_go (.inr k0) (p_number f n (nI 0) (nI 40)) with
    | inl e =>
      rw [hr1] at hps2
      rw [show p_number f n (nI 0) (nI 40) k0 = .inl e from hr1] at hR
      have hR : R = .inl e := hR
      subst hR
      have hps2 : t_ps J2 n (.inl e) := hps2
      have h5 := t_ps_e hps2
      repeat' (first
        | ((with_reducible refine @And.intro (vp_in _ _) _ ?_ ?_); (· (first | with_reducible assumption | ((with_reducible refine t_vin ?_); decide) | ((with_reducible refine vp_in_nI ?_ ?_) <;> first | omega | decide) | (simp (disch := omega) only [xl_n, xl_m, nI_dec, nI_sb, nI_add, pk_mul]; (with_reducible refine vp_in_nI ?_ ?_) <;> first | omega | decide))); (conv => whnf))
        | (refine And.intro (by first | with_reducible assumption | exact (show tL _ = _ from rfl) | decide) ?_; (conv => whnf))
        | ((with_reducible refine @And.intro (_ = _) _ ?_ ?_); (· rfl); (conv => whnf))
        | ((with_reducible refine @And.intro (@LE.le Nat _ _ _) _ ?_ ?_); (· (first | exact Nat.zero_le _ | exact Nat.le_of_ble_eq_true rfl | omega)); (conv => whnf))
        | ((with_reducible refine @And.intro (@LT.lt Nat _ _ _) _ ?_ ?_); (· omega); (conv => whnf))
        | ((with_reducible refine @And.intro (∃ _, _ = _) _ ?_ ?_); (· exact ⟨_, rfl⟩); (conv => whnf))
        | ((with_reducible refine @And.intro (_ ∨ _) _ ?_ ?_); (· (first | exact Or.inl rfl | exact Or.inr rfl | exact t_b01 _ | assumption)); (conv => whnf))
        | ((with_reducible refine @And.intro (¬ (_ = _)) _ ?_ ?_); (· first | assumption | (with_reducible assumption)); (conv => whnf))
        | (refine hX _ _ _ _ _ _ ?_; (conv => whnf); fail_if_success show False)
        | (rw [t_si]; simp (disch := omega) only [xl_n, xl_m, nI_dec, nI_sb, xl_0, xl_1, tW_i, t_bn0, t_bn1, Classical.not_not, t_lt, nI_add, nI_1, pk_mul, nI_clamp, t_si, nI_eq, nI_leI, nM_ne, nM_ne, xm_u2_ne, xm_u2_at, reduceIte, tK_u, tA_u, Nat.reduceEqDiff]; (conv => whnf))
        | (refine ⟨_, rfl, ?_⟩; (conv => whnf))
        | (refine ⟨_, _, rfl, ?_⟩; (conv => whnf))
        | (refine ⟨_, _, _, rfl, ?_⟩; (conv => whnf))
        | (refine ⟨_, _, _, _, rfl, ?_⟩; (conv => whnf))
        | (rw [t_l100 (by first | with_reducible assumption | omega | exact vp_lt (by assumption) | (rw [nI_clamp (by omega)]; omega))]; (conv => whnf))
        | (refine ⟨_, _, (by with_reducible assumption), ?_⟩; (conv => whnf))
        | (refine ⟨_, (by first | with_reducible assumption | exact rfl), ?_⟩; (conv => whnf))
        | (refine And.intro (fun c => ?_) (fun c => ?_) <;> (first | (exact absurd c (by decide +kernel)) | (exact absurd c (by assumption)) | (exact False.elim (c (by assumption))) | (conv => whnf)))
        | fail)
      exact hQ _ (hJ2.w hrr) (t_ps_u hps2 hb0) (fun F' k' h => by cases h)
    | inr e =>
      obtain ⟨v1, k1⟩ := e
      rw [hr1] at hps2
      rw [show p_number f n (nI 0) (nI 40) k0 = .inr (v1, k1) from hr1] at hR
      have hR : R = p_bd (p_number f n (nI 0) (nI 60) k1) fun v2 k' => if ¬ v2 = nI 0 ∧ v2 ≤ v1 then .inl (nI 2, p_bl f n k1) else .inr (xm_u2 (xm_u2 (xm_u2 F (100 + h) 0 v0) (100 + h) 1 v1) (100 + h) 2 v2, k') := hR
      have hps2 : t_ps J2 n (.inr k1) := hps2
      have hps3 := t_ps_u (k := 1) (v := p_v (.inr (v1, k1))) hps2 hb0
      have htA := t_tx_u (k := 1) (v := p_v (.inr (v1, k1))) htJ2 hb0 hb9
      have hF1 : t_fok (xm_u2 F (100 + h) 0 v0) := hF.u (by omega)
      have hrA : t_rea (xm_u2 J2 (100 + h) 1 v1) (xm_u2 (xm_u2 F (100 + h) 0 v0) (100 + h) 1 v1) := hrJ2.u (Or.inl (by omega)) (by omega) hF1
      have h5 := t_ps_0 hps2
      obtain ⟨-, h4A, hk1⟩ := t_ps_n hps3
      have hpsB := t_ps_bl (f := f) hps3
      have hWB : t_pf (xm_u2 J2 (100 + h) 1 (p_v (.inr (v1, k1)))) (xm_u2 (xm_u2 J2 (100 + h) 1 (p_v (.inr (v1, k1)))) 0 4 (nI (p_bl f n k1))) := t_pf.u (Or.inl rfl)
      have htB := hWB.tx htA
      clear hr1
      repeat' (first
        | ((with_reducible refine @And.intro (vp_in _ _) _ ?_ ?_); (· (first | with_reducible assumption | ((with_reducible refine t_vin ?_); decide) | ((with_reducible refine vp_in_nI ?_ ?_) <;> first | omega | decide) | (simp (disch := omega) only [xl_n, xl_m, nI_dec, nI_sb, nI_add, pk_mul]; (with_reducible refine vp_in_nI ?_ ?_) <;> first | omega | decide))); (conv => whnf))
        | (refine And.intro (by first | with_reducible assumption | exact (show tL _ = _ from rfl) | decide) ?_; (conv => whnf))
        | ((with_reducible refine @And.intro (_ = _) _ ?_ ?_); (· rfl); (conv => whnf))
        | ((with_reducible refine @And.intro (@LE.le Nat _ _ _) _ ?_ ?_); (· (first | exact Nat.zero_le _ | exact Nat.le_of_ble_eq_true rfl | omega)); (conv => whnf))
        | ((with_reducible refine @And.intro (@LT.lt Nat _ _ _) _ ?_ ?_); (· omega); (conv => whnf))
        | ((with_reducible refine @And.intro (∃ _, _ = _) _ ?_ ?_); (· exact ⟨_, rfl⟩); (conv => whnf))
        | ((with_reducible refine @And.intro (_ ∨ _) _ ?_ ?_); (· (first | exact Or.inl rfl | exact Or.inr rfl | exact t_b01 _ | assumption)); (conv => whnf))
        | ((with_reducible refine @And.intro (¬ (_ = _)) _ ?_ ?_); (· first | assumption | (with_reducible assumption)); (conv => whnf))
        | (refine hX _ _ _ _ _ _ ?_; (conv => whnf); fail_if_success show False)
        | (rw [t_si]; simp (disch := omega) only [xl_n, xl_m, nI_dec, nI_sb, xl_0, xl_1, tW_i, t_bn0, t_bn1, Classical.not_not, t_lt, nI_add, nI_1, pk_mul, nI_clamp, t_si, nI_eq, nI_leI, nM_ne, nM_ne, xm_u2_ne, xm_u2_at, reduceIte, tK_u, tA_u, Nat.reduceEqDiff]; (conv => whnf))
        | (refine ⟨_, rfl, ?_⟩; (conv => whnf))
        | (refine ⟨_, _, rfl, ?_⟩; (conv => whnf))
        | (refine ⟨_, _, _, rfl, ?_⟩; (conv => whnf))
        | (refine ⟨_, _, _, _, rfl, ?_⟩; (conv => whnf))
        | (rw [t_l100 (by first | with_reducible assumption | omega | exact vp_lt (by assumption) | (rw [nI_clamp (by omega)]; omega))]; (conv => whnf))
        | (refine ⟨_, _, (by with_reducible assumption), ?_⟩; (conv => whnf))
        | (refine ⟨_, (by first | with_reducible assumption | exact rfl), ?_⟩; (conv => whnf))
        | (refine And.intro (fun c => ?_) (fun c => ?_) <;> (first | (exact absurd c (by decide +kernel)) | (exact absurd c (by assumption)) | (exact False.elim (c (by assumption))) | (conv => whnf)))
        | fail)
      intro J3 hJ3 hps4
      have eg : p_go (.inr (p_bl f n k1)) (p_number f n (nI 0) (nI 60)) = p_number f n (nI 0) (nI 60) k1 := p_number_bl hk1
      simp only [xl_n, eg] at hps4 ⊢
      clear eg
      have hJ3 := hWB.tr hJ3
      have hrJ3 := hJ3.d hrA
      have e31 : ∀ j, J3 (100 + h) j = xm_u2 J2 (100 + h) 1 v1 (100 + h) j := fun j => congrFun (hJ3.1 _ hb0) j
      have e311 : J3 (100 + h) 1 = v1 := (e31 1).trans (by rw [xm_u2_at, if_pos rfl])
      have hJ3 := (hJ2.w hrr).tr hJ3.r
      have hF2 : t_fok (xm_u2 (xm_u2 F (100 + h) 0 v0) (100 + h) 1 v1) := hF1.u (by omega)
      have hrC : ∀ v2, t_rea (xm_u2 J3 (100 + h) 2 v2) (xm_u2 (xm_u2 (xm_u2 F (100 + h) 0 v0) (100 + h) 1 v1) (100 + h) 2 v2) := fun v2 => hrJ3.u (Or.inl (by omega)) (by omega) hF2
      clear htA hrA hrJ3 hpsB htB hWB h5 hps hps2 hps3 htJ htJ2 hrJ hrJ2
      (conv => whnf)
      cases hr2 : p_number f n (nI 0) (nI 60) k1 with
      | inl e =>
        rw [hr2] at hps4
        rw [hr2] at hR
        have hR : R = .inl e := hR
        subst hR
        have hps4 : t_ps J3 n (.inl e) := hps4
        have h5 := t_ps_e hps4
        repeat' (first
          | ((with_reducible refine @And.intro (vp_in _ _) _ ?_ ?_); (· (first | with_reducible assumption | ((with_reducible refine t_vin ?_); decide) | ((with_reducible refine vp_in_nI ?_ ?_) <;> first | omega | decide) | (simp (disch := omega) only [xl_n, xl_m, nI_dec, nI_sb, nI_add, pk_mul]; (with_reducible refine vp_in_nI ?_ ?_) <;> first | omega | decide))); (conv => whnf))
          | (refine And.intro (by first | with_reducible assumption | exact (show tL _ = _ from rfl) | decide) ?_; (conv => whnf))
          | ((with_reducible refine @And.intro (_ = _) _ ?_ ?_); (· rfl); (conv => whnf))
          | ((with_reducible refine @And.intro (@LE.le Nat _ _ _) _ ?_ ?_); (· (first | exact Nat.zero_le _ | exact Nat.le_of_ble_eq_true rfl | omega)); (conv => whnf))
          | ((with_reducible refine @And.intro (@LT.lt Nat _ _ _) _ ?_ ?_); (· omega); (conv => whnf))
          | ((with_reducible refine @And.intro (∃ _, _ = _) _ ?_ ?_); (· exact ⟨_, rfl⟩); (conv => whnf))
          | ((with_reducible refine @And.intro (_ ∨ _) _ ?_ ?_); (· (first | exact Or.inl rfl | exact Or.inr rfl | exact t_b01 _ | assumption)); (conv => whnf))
          | ((with_reducible refine @And.intro (¬ (_ = _)) _ ?_ ?_); (· first | assumption | (with_reducible assumption)); (conv => whnf))
          | (refine hX _ _ _ _ _ _ ?_; (conv => whnf); fail_if_success show False)
          | (rw [t_si]; simp (disch := omega) only [xl_n, xl_m, nI_dec, nI_sb, xl_0, xl_1, tW_i, t_bn0, t_bn1, Classical.not_not, t_lt, nI_add, nI_1, pk_mul, nI_clamp, t_si, nI_eq, nI_leI, nM_ne, nM_ne, xm_u2_ne, xm_u2_at, reduceIte, tK_u, tA_u, Nat.reduceEqDiff]; (conv => whnf))
          | (refine ⟨_, rfl, ?_⟩; (conv => whnf))
          | (refine ⟨_, _, rfl, ?_⟩; (conv => whnf))
          | (refine ⟨_, _, _, rfl, ?_⟩; (conv => whnf))
          | (refine ⟨_, _, _, _, rfl, ?_⟩; (conv => whnf))
          | (rw [t_l100 (by first | with_reducible assumption | omega | exact vp_lt (by assumption) | (rw [nI_clamp (by omega)]; omega))]; (conv => whnf))
          | (refine ⟨_, _, (by with_reducible assumption), ?_⟩; (conv => whnf))
          | (refine ⟨_, (by first | with_reducible assumption | exact rfl), ?_⟩; (conv => whnf))
          | (refine And.intro (fun c => ?_) (fun c => ?_) <;> (first | (exact absurd c (by decide +kernel)) | (exact absurd c (by assumption)) | (exact False.elim (c (by assumption))) | (conv => whnf)))
          | fail)
        exact hQ _ (hJ3.w hrr) (t_ps_u hps4 hb0) (fun F' k' h => by cases h)
      | inr e =>
        obtain ⟨v2, k2⟩ := e
        rw [hr2] at hps4
        rw [hr2] at hR
        have hR : R = if ¬ v2 = nI 0 ∧ v2 ≤ v1 then .inl (nI 2, p_bl f n k1) else .inr (xm_u2 (xm_u2 (xm_u2 F (100 + h) 0 v0) (100 + h) 1 v1) (100 + h) 2 v2, k2) := hR
        have hps4 : t_ps J3 n (.inr k2) := hps4
        have h5 := t_ps_0 hps4
        clear hr2
        repeat' (first
          | ((with_reducible refine @And.intro (vp_in _ _) _ ?_ ?_); (· (first | with_reducible assumption | ((with_reducible refine t_vin ?_); decide) | ((with_reducible refine vp_in_nI ?_ ?_) <;> first | omega | decide) | (simp (disch := omega) only [xl_n, xl_m, nI_dec, nI_sb, nI_add, pk_mul]; (with_reducible refine vp_in_nI ?_ ?_) <;> first | omega | decide))); (conv => whnf))
          | (refine And.intro (by first | with_reducible assumption | exact (show tL _ = _ from rfl) | decide) ?_; (conv => whnf))
          | ((with_reducible refine @And.intro (_ = _) _ ?_ ?_); (· rfl); (conv => whnf))
          | ((with_reducible refine @And.intro (@LE.le Nat _ _ _) _ ?_ ?_); (· (first | exact Nat.zero_le _ | exact Nat.le_of_ble_eq_true rfl | omega)); (conv => whnf))
          | ((with_reducible refine @And.intro (@LT.lt Nat _ _ _) _ ?_ ?_); (· omega); (conv => whnf))
          | ((with_reducible refine @And.intro (∃ _, _ = _) _ ?_ ?_); (· exact ⟨_, rfl⟩); (conv => whnf))
          | ((with_reducible refine @And.intro (_ ∨ _) _ ?_ ?_); (· (first | exact Or.inl rfl | exact Or.inr rfl | exact t_b01 _ | assumption)); (conv => whnf))
          | ((with_reducible refine @And.intro (¬ (_ = _)) _ ?_ ?_); (· first | assumption | (with_reducible assumption)); (conv => whnf))
          | (refine hX _ _ _ _ _ _ ?_; (conv => whnf); fail_if_success show False)
          | (rw [t_si]; simp (disch := omega) only [xl_n, xl_m, nI_dec, nI_sb, xl_0, xl_1, tW_i, t_bn0, t_bn1, Classical.not_not, t_lt, nI_add, nI_1, pk_mul, nI_clamp, t_si, nI_eq, nI_leI, nM_ne, nM_ne, xm_u2_ne, xm_u2_at, reduceIte, tK_u, tA_u, Nat.reduceEqDiff]; (conv => whnf))
          | (refine ⟨_, rfl, ?_⟩; (conv => whnf))
          | (refine ⟨_, _, rfl, ?_⟩; (conv => whnf))
          | (refine ⟨_, _, _, rfl, ?_⟩; (conv => whnf))
          | (refine ⟨_, _, _, _, rfl, ?_⟩; (conv => whnf))
          | (rw [t_l100 (by first | with_reducible assumption | omega | exact vp_lt (by assumption) | (rw [nI_clamp (by omega)]; omega))]; (conv => whnf))
          | (refine ⟨_, _, (by with_reducible assumption), ?_⟩; (conv => whnf))
          | (refine ⟨_, (by first | with_reducible assumption | exact rfl), ?_⟩; (conv => whnf))
          | (refine And.intro (fun c => ?_) (fun c => ?_) <;> (first | (exact absurd c (by decide +kernel)) | (exact absurd c (by assumption)) | (exact False.elim (c (by assumption))) | (conv => whnf)))
          | fail)
        all_goals (
          have hC := hrC v2
          have eC : ∀ i, i < 3 → xm_u2 J3 (100 + h) 2 v2 (100 + h) i = xm_u2 (xm_u2 (xm_u2 F (100 + h) 0 v0) (100 + h) 1 v1) (100 + h) 2 v2 (100 + h) i := by
            intro i hi
            have e0 : J3 (100 + h) 0 = v0 := (e31 0).trans (by rw [xm_u2_at, if_neg (by decide)]; exact e20)
            match i, hi with
            | 0, _ => simp [xm_u2, e0]
            | 1, _ => simp [xm_u2, e311]
            | 2, _ => simp [xm_u2]
          have e32 : xm_u2 J3 (100 + h) 2 v2 (100 + h) 2 = v2 := by rw [xm_u2_at, if_pos rfl]
          have e33 : xm_u2 J3 (100 + h) 2 v2 (100 + h) 1 = v1 := by rw [xm_u2_at, if_neg (by decide)]; exact e311
          have hpC := t_ps_u (k := 2) (v := v2) hps4 hb0
          have h5C := (t_ps_n hpC).1)
        · have q : ¬ (¬ v2 = nI 0 ∧ v2 ≤ v1) := fun z => z.1 (e32.symm.trans (show xm_u2 J3 (100 + h) 2 v2 (100 + h) 2 = 0 by assumption))
          rw [if_neg q] at hR
          subst hR
          exact hQ _ (hJ3.w hrr) ⟨hpC, hC⟩ (fun F' k' h => by cases h; exact eC)
        · have q : v1 < v2 := by
            rw [← e32]
            refine Int32.lt_of_le_of_lt (Int32.le_of_eq e33.symm) ?_
            assumption
          rw [if_neg (fun z => absurd z.2 (Int32.not_le.mpr q))] at hR
          subst hR
          exact hQ _ (hJ3.w hrr) ⟨hpC, hC⟩ (fun F' k' h => by cases h; exact eC)
        · have q1 : ¬ xm_u2 J3 (100 + h) 2 v2 (100 + h) 2 = 0 := by assumption
          have q2 : ¬ xm_u2 J3 (100 + h) 2 v2 (100 + h) 1 < xm_u2 J3 (100 + h) 2 v2 (100 + h) 2 := by assumption
          rw [e32] at q1
          rw [e32, e33] at q2
          rw [if_pos ⟨by rw [nI_0]; exact q1, Int32.not_lt.mp q2⟩] at hR
          subst hR
          exact hQ _ ((hJ3.w hrr).tr ((t_pf.u (Or.inr (Or.inl rfl))).tr (t_pf.u (Or.inr (Or.inr rfl)))).r) (t_ps_w hpC (by decide +kernel)) (fun F' k' h => by cases h)
        · exact absurd h5C (by assumption)
theorem ct_X11_bornHere {Iv : xI} (hI : xm_good Iv) : xm_Ct Iv yX11_bornHere (ws_ yX11_bornHere cX11_bornHere 3 none) 4 0 0 S_X11_bornHere := xm_enter (rt := 2) (init := false) (by decide +kernel) rfl (fun h => by cases h) (Or.inr (Or.inr (Or.inl ⟨rfl, rfl⟩))) (oX11_bornHere hI) body_X11_bornHere
theorem cv_X11_bornHere {Iv : xI} {own : String} {cc : ByteArray} {fr pc idx : Nat} (hI : xm_good Iv) (hdg : decode cc pc = .ok (.invokevirtual idx, 3)) (hl : xm_ml own idx yX11_bornHere) (hfr : 4 < fr) : xm_CallOK Iv own cc fr pc (pc + 3) 2 0 0 (xm_this 8 S_X11_bornHere) := xm_callV 8 hI (ct_X11_bornHere hI) hdg hl q2188 qs63 q145 q2189 rfl rfl (by decide +kernel) hfr (by decide)

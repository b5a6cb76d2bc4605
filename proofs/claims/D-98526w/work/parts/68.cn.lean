/-! ===== the reference: feed ===== -/
set_option maxRecDepth 100000
def g_byte (v : Int32) (i : Nat) : Int32 := (v >>> (nI (24 - 8 * i) &&& 31)) &&& nI 255
def g_five (a b c d e : Int32) (k : Nat) : Int32 := if k < 4 then a else if k < 8 then b else if k < 12 then c else if k < 16 then d else e
def g_fedv (a b c d e : Int32) (k : Nat) : Int32 := g_byte (g_five a b c d e k) (k % 4)
def g_tape (G : gG) (t : Nat) (f : Nat → Int32) : gG := g_setN G fun n => (n.1, n.2.1, n.2.2.1, n.2.2.2.1, n.2.2.2.2.1, n.2.2.2.2.2.1, n.2.2.2.2.2.2.1, n.2.2.2.2.2.2.2.1, t, f, n.2.2.2.2.2.2.2.2.2.2)
def q_feed (G : gG) (a b c d e : Int32) : gR := if gtape G + 20 ≤ 600 then (nI 0, nI (gtape G + 20), g_tape G (gtape G + 20) (fun k => if k < gtape G then gfed G k else if k < gtape G + 20 then g_fedv a b c d e (k - gtape G) else nI 0)) else g_says G nM
theorem t_mod4 : ∀ k, k < 20 → nI 24 - nI 8 * (nI k - nI k / nI 4 * nI 4) = nI (24 - 8 * (k % 4)) := by decide +kernel
/-- only the tape is written -/
def t_fd (I J : tI) : Prop := (∀ b, b ≠ 0 → b ≠ 9 → J b = I b) ∧ ∀ k, k ≠ 1 → J 0 k = I 0 k
theorem t_fd.G {I J : tI} (h : t_fd I J) (hg : t_good I) : tG J = g_tape (tG I) (t_tp J) (fun k => if k < t_tp J then J 9 k else nI 0) := by
  have ss : t_same I J := ⟨fun b hb => h.1 b (by omega) (by omega), h.2 27 (by decide), h.2 41 (by decide), h.2 45 (by decide)⟩
  have ei : t_im J = t_im I := by unfold t_im; rw [h.2 43 (by decide)]
  have el : t_l J = t_l I := by unfold t_l; rw [h.2 41 (by decide)]
  have a : ∀ r, (r = 36 ∨ r = 37 ∨ r = 38 ∨ 639 < r) → tA J r = tA I r := fun r hr => tA_eq fun k _ => by rw [h.1 r (by omega) (by omega)]
  unfold tG g_tape g_setN
  rw [ss.K hg, ss.X hg]
  unfold tN
  rw [ei, el, a 36 (by omega), a 37 (by omega), a 38 (by omega), h.2 42 (by decide), h.2 3 (by decide), h.1 10 (by decide) (by decide)]
  have e1' : ∀ k, tA J (640 + k) = tA I (640 + k) := fun k => a _ (by omega)
  have e2' : ∀ k, J (600 + k) = I (600 + k) := fun k => h.1 _ (by omega) (by omega)
  simp only [e1', e2']
theorem t_fd.good {I J : tI} (h : t_fd I J) (hg : t_good I) (h1 : J 0 1 = nI (t_tp J) ∧ t_tp J ≤ 600) : t_good J := by
  have ss : t_same I J := ⟨fun b hb => h.1 b (by omega) (by omega), h.2 27 (by decide), h.2 41 (by decide), h.2 45 (by decide)⟩
  refine ss.good hg ?_ h1
  have : t_im J = t_im I := by unfold t_im; rw [h.2 43 (by decide)]
  rw [this, h.2 43 (by decide)]
  exact hg.2.2.2.2.1
theorem t_tp_of {I : tI} {n : Nat} (h : I 0 1 = nI n) (hn : n < 2 ^ 31) : t_tp I = n := by unfold t_tp; rw [h, nI_clamp hn]
abbrev bX11_feed_0 : List xE := [(.aload_n 0, 1, 0, 0, 0), (.iconst 0, 2, 0, 0, 0), (.putfield 134, 5, 8, 0, 0), (.aload_n 0, 6, 0, 0, 0), (.getfield 137, 9, 8, 1, 0), (.bipush 20, 11, 0, 0, 0), (.iadd, 12, 0, 0, 0), (.sipush 600, 15, 0, 0, 0), (.if_icmp .le 5, 18, 0, 20, 0), (.iconst (-1), 19, 0, 0, 0), (.ireturn, 20, 0, 0, 0)]
abbrev bX11_feed_20 : List xE := [(.iconst 0, 21, 0, 0, 0), (.istore 6, 23, 0, 0, 0)]
abbrev bX11_feed_23 : List xE := [(.iload 6, 25, 0, 0, 0), (.bipush 20, 27, 0, 0, 0), (.if_icmp .ge 93, 30, 0, 120, 0), (.iload 6, 32, 0, 0, 0), (.iconst 4, 33, 0, 0, 0), (.if_icmp .ge 7, 36, 0, 40, 0), (.iload_n 1, 37, 0, 0, 0), (.goto 39, 40, 0, 76, 0)]
abbrev bX11_feed_40 : List xE := [(.iload 6, 42, 0, 0, 0), (.bipush 8, 44, 0, 0, 0), (.if_icmp .ge 7, 47, 0, 51, 0), (.iload_n 2, 48, 0, 0, 0), (.goto 28, 51, 0, 76, 0)]
abbrev bX11_feed_51 : List xE := [(.iload 6, 53, 0, 0, 0), (.bipush 12, 55, 0, 0, 0), (.if_icmp .ge 7, 58, 0, 62, 0), (.iload_n 3, 59, 0, 0, 0), (.goto 17, 62, 0, 76, 0)]
abbrev bX11_feed_62 : List xE := [(.iload 6, 64, 0, 0, 0), (.bipush 16, 66, 0, 0, 0), (.if_icmp .ge 8, 69, 0, 74, 0), (.iload 4, 71, 0, 0, 0), (.goto 5, 74, 0, 76, 0)]
abbrev bX11_feed_74 : List xE := [(.iload 5, 76, 0, 0, 0)]
abbrev bX11_feed_76 : List xE := [(.istore 7, 78, 0, 0, 0), (.aload_n 0, 79, 0, 0, 0), (.getfield 13, 82, 8, 9, 1), (.aload_n 0, 83, 0, 0, 0), (.getfield 137, 86, 8, 1, 0), (.iload 7, 88, 0, 0, 0), (.bipush 24, 90, 0, 0, 0), (.bipush 8, 92, 0, 0, 0), (.iload 6, 94, 0, 0, 0), (.iconst 4, 95, 0, 0, 0), (.irem, 96, 0, 0, 0), (.imul, 97, 0, 0, 0), (.isub, 98, 0, 0, 0), (.ishr, 99, 0, 0, 0), (.sipush 255, 102, 0, 0, 0), (.iand, 103, 0, 0, 0), (.iastore, 104, 0, 0, 0), (.aload_n 0, 105, 0, 0, 0), (.dup, 106, 0, 0, 0), (.getfield 137, 109, 8, 1, 0), (.iconst 1, 110, 0, 0, 0), (.iadd, 111, 0, 0, 0), (.putfield 137, 114, 8, 1, 0), (.iinc 6 1, 117, 0, 0, 0), (.goto (-94), 120, 0, 23, 0)]
abbrev bX11_feed_120 : List xE := [(.aload_n 0, 121, 0, 0, 0), (.getfield 137, 124, 8, 1, 0), (.ireturn, 125, 0, 0, 0)]
abbrev kX11_feed : List (Nat × List xE) := [(0, bX11_feed_0), (20, bX11_feed_20), (23, bX11_feed_23), (40, bX11_feed_40), (51, bX11_feed_51), (62, bX11_feed_62), (74, bX11_feed_74), (76, bX11_feed_76), (120, bX11_feed_120)]
abbrev lX11_feed : List (Nat × Nat × Nat × xS) := []
theorem oX11_feed_0 {Iv : xI} (hI : xm_good Iv)  : xm_okb Iv RX11 cX11_feed false 1 lX11_feed bX11_feed_0 0 := xo_0 dX11_feed_0 rfl trivial (xo_0 dX11_feed_1 rfl trivial (xo_0 dX11_feed_2 rfl (xm_fp_of (xm_fg_of (Or.inl q1955) (by decide) rfl (by decide) rfl rfl (Or.inl rfl) rfl) (by decide) rfl (Or.inl ⟨rfl, rfl⟩) rfl) (xo_0 dX11_feed_5 rfl trivial (xo_0 dX11_feed_6 rfl (xm_fg_of (Or.inl q1956) (by decide) rfl (by decide) rfl rfl (Or.inl rfl) rfl) (xo_0 dX11_feed_9 rfl (xo_bipush (by decide +kernel)) (xo_0 dX11_feed_11 rfl trivial (xo_0 dX11_feed_12 rfl (xo_sipush (by decide +kernel)) (xo_0 dX11_feed_15 rfl rfl (xo_0 dX11_feed_18 rfl trivial (xo_0 dX11_feed_19 rfl trivial (xo_n)))))))))))
theorem oX11_feed_20 {Iv : xI} (hI : xm_good Iv)  : xm_okb Iv RX11 cX11_feed false 1 lX11_feed bX11_feed_20 20 := xo_0 dX11_feed_20 rfl trivial (xo_0 dX11_feed_21 rfl trivial (xo_n))
theorem oX11_feed_23 {Iv : xI} (hI : xm_good Iv)  : xm_okb Iv RX11 cX11_feed false 1 lX11_feed bX11_feed_23 23 := xo_0 dX11_feed_23 rfl trivial (xo_0 dX11_feed_25 rfl (xo_bipush (by decide +kernel)) (xo_0 dX11_feed_27 rfl rfl (xo_0 dX11_feed_30 rfl trivial (xo_0 dX11_feed_32 rfl trivial (xo_0 dX11_feed_33 rfl rfl (xo_0 dX11_feed_36 rfl trivial (xo_0 dX11_feed_37 rfl rfl (xo_n))))))))
theorem oX11_feed_40 {Iv : xI} (hI : xm_good Iv)  : xm_okb Iv RX11 cX11_feed false 1 lX11_feed bX11_feed_40 40 := xo_0 dX11_feed_40 rfl trivial (xo_0 dX11_feed_42 rfl (xo_bipush (by decide +kernel)) (xo_0 dX11_feed_44 rfl rfl (xo_0 dX11_feed_47 rfl trivial (xo_0 dX11_feed_48 rfl rfl (xo_n)))))
theorem oX11_feed_51 {Iv : xI} (hI : xm_good Iv)  : xm_okb Iv RX11 cX11_feed false 1 lX11_feed bX11_feed_51 51 := xo_0 dX11_feed_51 rfl trivial (xo_0 dX11_feed_53 rfl (xo_bipush (by decide +kernel)) (xo_0 dX11_feed_55 rfl rfl (xo_0 dX11_feed_58 rfl trivial (xo_0 dX11_feed_59 rfl rfl (xo_n)))))
theorem oX11_feed_62 {Iv : xI} (hI : xm_good Iv)  : xm_okb Iv RX11 cX11_feed false 1 lX11_feed bX11_feed_62 62 := xo_0 dX11_feed_62 rfl trivial (xo_0 dX11_feed_64 rfl (xo_bipush (by decide +kernel)) (xo_0 dX11_feed_66 rfl rfl (xo_0 dX11_feed_69 rfl trivial (xo_0 dX11_feed_71 rfl rfl (xo_n)))))
theorem oX11_feed_74 {Iv : xI} (hI : xm_good Iv)  : xm_okb Iv RX11 cX11_feed false 1 lX11_feed bX11_feed_74 74 := xo_0 dX11_feed_74 rfl trivial (xo_n)
theorem oX11_feed_76 {Iv : xI} (hI : xm_good Iv)  : xm_okb Iv RX11 cX11_feed false 1 lX11_feed bX11_feed_76 76 := xo_0 dX11_feed_76 rfl trivial (xo_0 dX11_feed_78 rfl trivial (xo_1 dX11_feed_79 rfl (xm_fg_of (Or.inl q1964) (by decide) rfl (by decide) rfl rfl (Or.inl rfl) rfl) (xo_0 dX11_feed_82 rfl trivial (xo_0 dX11_feed_83 rfl (xm_fg_of (Or.inl q1956) (by decide) rfl (by decide) rfl rfl (Or.inl rfl) rfl) (xo_0 dX11_feed_86 rfl trivial (xo_0 dX11_feed_88 rfl (xo_bipush (by decide +kernel)) (xo_0 dX11_feed_90 rfl (xo_bipush (by decide +kernel)) (xo_0 dX11_feed_92 rfl trivial (xo_0 dX11_feed_94 rfl trivial (xo_0 dX11_feed_95 rfl trivial (xo_0 dX11_feed_96 rfl trivial (xo_0 dX11_feed_97 rfl trivial (xo_0 dX11_feed_98 rfl trivial (xo_0 dX11_feed_99 rfl (xo_sipush (by decide +kernel)) (xo_0 dX11_feed_102 rfl trivial (xo_0 dX11_feed_103 rfl trivial (xo_0 dX11_feed_104 rfl trivial (xo_0 dX11_feed_105 rfl trivial (xo_0 dX11_feed_106 rfl (xm_fg_of (Or.inl q1956) (by decide) rfl (by decide) rfl rfl (Or.inl rfl) rfl) (xo_0 dX11_feed_109 rfl trivial (xo_0 dX11_feed_110 rfl trivial (xo_0 dX11_feed_111 rfl (xm_fp_of (xm_fg_of (Or.inl q1956) (by decide) rfl (by decide) rfl rfl (Or.inl rfl) rfl) (by decide) rfl (Or.inl ⟨rfl, rfl⟩) rfl) (xo_0 dX11_feed_114 rfl trivial (xo_0 dX11_feed_117 rfl rfl (xo_n)))))))))))))))))))))))))
theorem oX11_feed_120 {Iv : xI} (hI : xm_good Iv)  : xm_okb Iv RX11 cX11_feed false 1 lX11_feed bX11_feed_120 120 := xo_0 dX11_feed_120 rfl trivial (xo_0 dX11_feed_121 rfl (xm_fg_of (Or.inl q1956) (by decide) rfl (by decide) rfl rfl (Or.inl rfl) rfl) (xo_0 dX11_feed_124 rfl trivial (xo_n)))
theorem oX11_feed {Iv : xI} (hI : xm_good Iv)  : ∀ q ∈ kX11_feed, xm_okb Iv RX11 cX11_feed false 1 lX11_feed q.2 q.1 := by
  intro q hq
  simp only [List.mem_cons, List.not_mem_nil, or_false] at hq
  rcases hq with rfl | rfl | rfl | rfl | rfl | rfl | rfl | rfl | rfl
  · exact oX11_feed_0 hI  
  · exact oX11_feed_20 hI  
  · exact oX11_feed_23 hI  
  · exact oX11_feed_40 hI  
  · exact oX11_feed_51 hI  
  · exact oX11_feed_62 hI  
  · exact oX11_feed_74 hI  
  · exact oX11_feed_76 hI  
  · exact oX11_feed_120 hI  
def S_X11_feed : xS := tU fun as I Q => ∃ a b c d e, as = [.ref 0, .int a, .int b, .int c, .int d, .int e] ∧ t_good I ∧ t_P Q (q_feed (tG I) a b c d e)
theorem body_X11_feed : xm_Body 8 0 0 0 [] lX11_feed kX11_feed S_X11_feed := by
  intro X avs w Q QX hX0 hS
  have hG := xm_go [] hX0
  have hX := xm_go [23] hX0
  clear hX0
  obtain ⟨I, rfl, va, vb, vc, vd, ve, rfl, hg, hQ⟩ := hS
  refine ⟨rfl, ?_⟩
  repeat' (first
    | ((with_reducible refine @And.intro (vp_in _ _) _ ?_ ?_); (· (first | with_reducible assumption | ((with_reducible refine t_vin ?_); decide) | ((with_reducible refine vp_in_nI ?_ ?_) <;> first | omega | decide) | (simp (disch := omega) only [xl_n, xl_m, nI_dec, nI_sb, nI_add, pk_mul]; (with_reducible refine vp_in_nI ?_ ?_) <;> first | omega | decide))); (conv => whnf))
    | (refine And.intro (by first | with_reducible assumption | exact (show tL _ = _ from rfl) | decide) ?_; (conv => whnf))
    | ((with_reducible refine @And.intro (_ = _) _ ?_ ?_); (· rfl); (conv => whnf))
    | ((with_reducible refine @And.intro (@LE.le Nat _ _ _) _ ?_ ?_); (· (first | exact Nat.zero_le _ | exact Nat.le_of_ble_eq_true rfl | omega)); (conv => whnf))
    | ((with_reducible refine @And.intro (@LT.lt Nat _ _ _) _ ?_ ?_); (· omega); (conv => whnf))
    | ((with_reducible refine @And.intro (∃ _, _ = _) _ ?_ ?_); (· exact ⟨_, rfl⟩); (conv => whnf))
    | ((with_reducible refine @And.intro (_ ∨ _) _ ?_ ?_); (· (first | exact Or.inl rfl | exact Or.inr rfl | exact t_b01 _ | assumption)); (conv => whnf))
    | ((with_reducible refine @And.intro (¬ (_ = _)) _ ?_ ?_); (· first | assumption | (with_reducible assumption)); (conv => whnf))
    | (refine hX _ _ _ _ _ _ ?_; (conv => whnf); fail_if_success show False)
    | fail)
  rw [t_si]
  obtain ⟨J, hJ, hg1, hG1, h01⟩ := t_pub hg
  rw [← hJ]
  rw [← hG1] at hQ
  clear hJ hG1 hg I
  have hg := hg1
  have hok := hg.1
  have hl := hg.2.1
  have h8 := hok.2.2.2.1
  have h9 := hok.2.1
  (conv => whnf)
  obtain ⟨htp, h600⟩ := hg.2.2.2.2.2.1
  have egt : gtape (tG J) = t_tp J := rfl
  have loop : t_tp J + 20 ≤ 600 → ∀ k, k ≤ 20 → ∀ M o, t_fd J M → M 0 1 = nI (t_tp J + k) → (∀ j, j < t_tp J → M 9 j = J 9 j) → (∀ j, j < k → M 9 (t_tp J + j) = g_fedv va vb vc vd ve j) → (o = none ∨ ∃ z, o = some (.int z)) → X 23 [some (.ref 0), some (.int va), some (.int vb), some (.int vc), some (.int vd), some (.int ve), some (.int (nI k)), o] [] (tW M) 0 0 := by
    intro h20
    refine t_for fun k h1 ih M o hM h01M hlo hhi ho => ?_
    have nx := ih (k + 1) (by omega)
    clear ih
    rw [q_feed, egt, if_pos h20] at hQ
    rcases ho with rfl | ⟨z, rfl⟩
    all_goals
      refine hG _ _ _ _ _ _ ?_
      (conv => whnf)
      repeat' (first
        | ((with_reducible refine @And.intro (vp_in _ _) _ ?_ ?_); (· (first | with_reducible assumption | ((with_reducible refine t_vin ?_); decide) | ((with_reducible refine vp_in_nI ?_ ?_) <;> first | omega | decide) | (simp (disch := omega) only [xl_n, xl_m, nI_dec, nI_sb, nI_add, pk_mul]; (with_reducible refine vp_in_nI ?_ ?_) <;> first | omega | decide))); (conv => whnf))
        | (refine And.intro (by first | with_reducible assumption | exact (show tL _ = _ from rfl) | decide) ?_; (conv => whnf))
        | ((with_reducible refine @And.intro (_ = _) _ ?_ ?_); (· rfl); (conv => whnf))
        | ((with_reducible refine @And.intro (@LE.le Nat _ _ _) _ ?_ ?_); (· (first | exact Nat.zero_le _ | exact Nat.le_of_ble_eq_true rfl | omega)); (conv => whnf))
        | ((with_reducible refine @And.intro (@LT.lt Nat _ _ _) _ ?_ ?_); (· omega); (conv => whnf))
        | ((with_reducible refine @And.intro (∃ _, _ = _) _ ?_ ?_); (· exact ⟨_, rfl⟩); (conv => whnf))
        | ((with_reducible refine @And.intro (_ ∨ _) _ ?_ ?_); (· (first | exact Or.inl rfl | exact Or.inr rfl | exact t_b01 _ | assumption)); (conv => whnf))
        | ((with_reducible refine @And.intro (¬ (_ = _)) _ ?_ ?_); (· first | assumption | (with_reducible assumption)); (conv => whnf))
        | (refine hX _ _ _ _ _ _ ?_; (conv => whnf); fail_if_success show False)
        | (rw [t_si]; (conv => whnf))
        | (refine ⟨_, rfl, ?_⟩; (conv => whnf))
        | (refine ⟨_, _, rfl, ?_⟩; (conv => whnf))
        | (refine ⟨_, _, _, rfl, ?_⟩; (conv => whnf))
        | (refine ⟨_, _, _, _, rfl, ?_⟩; (conv => whnf))
        | fail)
      refine And.intro (fun cc => ?_) (fun cc => ?_) <;> (conv => whnf)
      · have : k = 20 := Nat.le_antisymm h1 (t_kge (n := 20) rfl cc (by omega) (by omega))
        subst this
        clear nx
        repeat' (first
          | ((with_reducible refine @And.intro (vp_in _ _) _ ?_ ?_); (· (first | with_reducible assumption | ((with_reducible refine t_vin ?_); decide) | ((with_reducible refine vp_in_nI ?_ ?_) <;> first | omega | decide) | (simp (disch := omega) only [xl_n, xl_m, nI_dec, nI_sb, nI_add, pk_mul]; (with_reducible refine vp_in_nI ?_ ?_) <;> first | omega | decide))); (conv => whnf))
          | (refine And.intro (by first | with_reducible assumption | exact (show tL _ = _ from rfl) | decide) ?_; (conv => whnf))
          | ((with_reducible refine @And.intro (_ = _) _ ?_ ?_); (· rfl); (conv => whnf))
          | ((with_reducible refine @And.intro (@LE.le Nat _ _ _) _ ?_ ?_); (· (first | exact Nat.zero_le _ | exact Nat.le_of_ble_eq_true rfl | omega)); (conv => whnf))
          | ((with_reducible refine @And.intro (@LT.lt Nat _ _ _) _ ?_ ?_); (· omega); (conv => whnf))
          | ((with_reducible refine @And.intro (∃ _, _ = _) _ ?_ ?_); (· exact ⟨_, rfl⟩); (conv => whnf))
          | ((with_reducible refine @And.intro (_ ∨ _) _ ?_ ?_); (· (first | exact Or.inl rfl | exact Or.inr rfl | exact t_b01 _ | assumption)); (conv => whnf))
          | ((with_reducible refine @And.intro (¬ (_ = _)) _ ?_ ?_); (· first | assumption | (with_reducible assumption)); (conv => whnf))
          | (refine hX _ _ _ _ _ _ ?_; (conv => whnf); fail_if_success show False)
          | (rw [t_si]; (conv => whnf))
          | (refine ⟨_, rfl, ?_⟩; (conv => whnf))
          | (refine ⟨_, _, rfl, ?_⟩; (conv => whnf))
          | (refine ⟨_, _, _, rfl, ?_⟩; (conv => whnf))
          | (refine ⟨_, _, _, _, rfl, ?_⟩; (conv => whnf))
          | (refine And.intro (fun c => ?_) (fun c => ?_) <;> (first | (exact absurd c (by decide +kernel)) | (conv => whnf)))
          | fail)
        have et := t_tp_of h01M (by omega)
        refine t_q (hQ M (hM.good hg ⟨by rw [et]; exact h01M, by omega⟩) ?_ ((hM.2 0 (by decide)).trans h01)) h01M
        rw [hM.G hg, et]
        congr 1
        funext j
        by_cases q : j < t_tp J
        · rw [if_pos (by omega), if_pos q, hlo j q]
          exact (if_pos q).symm
        · by_cases q2 : j < t_tp J + 20
          · rw [if_pos q2, if_neg q, if_pos q2, ← hhi (j - t_tp J) (by omega), Nat.add_sub_cancel' (by omega)]
          · rw [if_neg q2, if_neg q, if_neg q2]
      · have hk : k < 20 := t_klt (n := 20) rfl cc (by omega)
        have e1 : (tW M).2.1 0 1 = nI (t_tp J + k) := h01M
        have hin : t_tp J + k < 600 := by omega
        have m4 := t_mod4 k hk
        have fv : ∀ v, v = g_five va vb vc vd ve k → X 23 [some (.ref 0), some (.int va), some (.int vb), some (.int vc), some (.int vd), some (.int ve), some (.int (nI (k + 1))), some (.int v)] [] (tW (xm_u2 (xm_u2 M 9 (t_tp J + k) ((v >>> (nI (24 - 8 * (k % 4)) &&& 31)) &&& nI 255)) 0 1 (nI (t_tp J + k + 1)))) 0 0 := by
          intro v hv
          refine nx (by omega) _ _ ⟨fun b h1 h2 => ?_, fun j hj => ?_⟩ ?_ (fun j hj => ?_) (fun j hj => ?_) (Or.inr ⟨_, rfl⟩)
          · rw [← hM.1 b h1 h2]
            exact funext fun j => by rw [xm_u2_ne h1, xm_u2_ne h2]
          · rw [xm_u2_at, if_neg hj, xm_u2_ne (by decide)]
            exact hM.2 j hj
          · rw [xm_u2_at, if_pos rfl]
            rfl
          · rw [xm_u2_ne (by decide), xm_u2_at, if_neg (by omega)]
            exact hlo j hj
          · rw [xm_u2_ne (by decide), xm_u2_at]
            by_cases q : j = k
            · rw [if_pos (by omega), q, hv]
              rfl
            · rw [if_neg (by omega)]
              exact hhi j (by omega)
        clear nx
        repeat' (first
          | ((with_reducible refine @And.intro (vp_in _ _) _ ?_ ?_); (· (first | with_reducible assumption | ((with_reducible refine t_vin ?_); decide) | ((with_reducible refine vp_in_nI ?_ ?_) <;> first | omega | decide) | (simp (disch := omega) only [xl_n, xl_m, nI_dec, nI_sb, nI_add, pk_mul]; (with_reducible refine vp_in_nI ?_ ?_) <;> first | omega | decide))); (conv => whnf))
          | (refine And.intro (by first | with_reducible assumption | exact (show tL _ = _ from rfl) | decide) ?_; (conv => whnf))
          | ((with_reducible refine @And.intro (_ = _) _ ?_ ?_); (· rfl); (conv => whnf))
          | ((with_reducible refine @And.intro (@LE.le Nat _ _ _) _ ?_ ?_); (· (first | exact Nat.zero_le _ | exact Nat.le_of_ble_eq_true rfl | omega)); (conv => whnf))
          | ((with_reducible refine @And.intro (@LT.lt Nat _ _ _) _ ?_ ?_); (· omega); (conv => whnf))
          | ((with_reducible refine @And.intro (∃ _, _ = _) _ ?_ ?_); (· exact ⟨_, rfl⟩); (conv => whnf))
          | ((with_reducible refine @And.intro (_ ∨ _) _ ?_ ?_); (· (first | exact Or.inl rfl | exact Or.inr rfl | exact t_b01 _ | assumption)); (conv => whnf))
          | ((with_reducible refine @And.intro (¬ (_ = _)) _ ?_ ?_); (· first | assumption | (with_reducible assumption)); (conv => whnf))
          | (refine hX _ _ _ _ _ _ ?_; (conv => whnf); fail_if_success show False)
          | (rw [t_si]; (conv => whnf))
          | (refine ⟨_, rfl, ?_⟩; (conv => whnf))
          | (refine ⟨_, _, rfl, ?_⟩; (conv => whnf))
          | (refine ⟨_, _, _, rfl, ?_⟩; (conv => whnf))
          | (refine ⟨_, _, _, _, rfl, ?_⟩; (conv => whnf))
          | (rw [e1]; (conv => whnf))
          | (refine And.intro (fun c => ?_) (fun c => ?_) <;> (first | (exact absurd c (by decide +kernel)) | (conv => whnf)))
          | fail)
        all_goals clear hX hG hQ
        all_goals have h91 : ∀ v, xm_u2 M 9 (t_tp J + k) v 0 1 = nI (t_tp J + k) := fun v => by rw [xm_u2_ne (by decide)]; exact h01M
        all_goals simp (disch := omega) only [xm_set, nI_clamp, tW_i, xl_n, m4, h91, nI_add, nI_leI] at *
        all_goals exact fv _ (by unfold g_five; (repeat' split) <;> first | rfl | omega)
  by_cases h20 : t_tp J + 20 ≤ 600
  · have l0 := loop h20 0 (Nat.zero_le _) J none ⟨fun _ _ _ => rfl, fun _ _ => rfl⟩ htp (fun _ _ => rfl) (fun j hj => by omega) (Or.inl rfl)
    clear loop
    repeat' (first
      | ((with_reducible refine @And.intro (vp_in _ _) _ ?_ ?_); (· (first | with_reducible assumption | ((with_reducible refine t_vin ?_); decide) | ((with_reducible refine vp_in_nI ?_ ?_) <;> first | omega | decide) | (simp (disch := omega) only [xl_n, xl_m, nI_dec, nI_sb, nI_add, pk_mul]; (with_reducible refine vp_in_nI ?_ ?_) <;> first | omega | decide))); (conv => whnf))
      | (refine And.intro (by first | with_reducible assumption | exact (show tL _ = _ from rfl) | decide) ?_; (conv => whnf))
      | ((with_reducible refine @And.intro (_ = _) _ ?_ ?_); (· rfl); (conv => whnf))
      | ((with_reducible refine @And.intro (@LE.le Nat _ _ _) _ ?_ ?_); (· (first | exact Nat.zero_le _ | exact Nat.le_of_ble_eq_true rfl | omega)); (conv => whnf))
      | ((with_reducible refine @And.intro (@LT.lt Nat _ _ _) _ ?_ ?_); (· omega); (conv => whnf))
      | ((with_reducible refine @And.intro (∃ _, _ = _) _ ?_ ?_); (· exact ⟨_, rfl⟩); (conv => whnf))
      | ((with_reducible refine @And.intro (_ ∨ _) _ ?_ ?_); (· (first | exact Or.inl rfl | exact Or.inr rfl | exact t_b01 _ | assumption)); (conv => whnf))
      | ((with_reducible refine @And.intro (¬ (_ = _)) _ ?_ ?_); (· first | assumption | (with_reducible assumption)); (conv => whnf))
      | (refine hX _ _ _ _ _ _ ?_; (conv => whnf); fail_if_success show False)
      | (rw [t_si]; (conv => whnf))
      | (refine ⟨_, rfl, ?_⟩; (conv => whnf))
      | (refine ⟨_, _, rfl, ?_⟩; (conv => whnf))
      | (refine ⟨_, _, _, rfl, ?_⟩; (conv => whnf))
      | (refine ⟨_, _, _, _, rfl, ?_⟩; (conv => whnf))
      | (refine And.intro (fun c => ?_) (fun c => ?_) <;> (first | (exact absurd c (by decide +kernel)) | (conv => whnf)))
      | fail)
    · exact l0
    · have c' : ¬ J 0 1 + Int32.ofInt 20 ≤ Int32.ofInt 600 := by assumption
      simp only [xl_n, htp, nI_add] at c'
      rw [nI_leI (by omega) (by omega)] at c'
      omega
  · rw [q_feed, egt, if_neg h20] at hQ
    clear loop
    repeat' (first
      | ((with_reducible refine @And.intro (vp_in _ _) _ ?_ ?_); (· (first | with_reducible assumption | ((with_reducible refine t_vin ?_); decide) | ((with_reducible refine vp_in_nI ?_ ?_) <;> first | omega | decide) | (simp (disch := omega) only [xl_n, xl_m, nI_dec, nI_sb, nI_add, pk_mul]; (with_reducible refine vp_in_nI ?_ ?_) <;> first | omega | decide))); (conv => whnf))
      | (refine And.intro (by first | with_reducible assumption | exact (show tL _ = _ from rfl) | decide) ?_; (conv => whnf))
      | ((with_reducible refine @And.intro (_ = _) _ ?_ ?_); (· rfl); (conv => whnf))
      | ((with_reducible refine @And.intro (@LE.le Nat _ _ _) _ ?_ ?_); (· (first | exact Nat.zero_le _ | exact Nat.le_of_ble_eq_true rfl | omega)); (conv => whnf))
      | ((with_reducible refine @And.intro (@LT.lt Nat _ _ _) _ ?_ ?_); (· omega); (conv => whnf))
      | ((with_reducible refine @And.intro (∃ _, _ = _) _ ?_ ?_); (· exact ⟨_, rfl⟩); (conv => whnf))
      | ((with_reducible refine @And.intro (_ ∨ _) _ ?_ ?_); (· (first | exact Or.inl rfl | exact Or.inr rfl | exact t_b01 _ | assumption)); (conv => whnf))
      | ((with_reducible refine @And.intro (¬ (_ = _)) _ ?_ ?_); (· first | assumption | (with_reducible assumption)); (conv => whnf))
      | (refine hX _ _ _ _ _ _ ?_; (conv => whnf); fail_if_success show False)
      | (rw [t_si]; (conv => whnf))
      | (refine ⟨_, rfl, ?_⟩; (conv => whnf))
      | (refine ⟨_, _, rfl, ?_⟩; (conv => whnf))
      | (refine ⟨_, _, _, rfl, ?_⟩; (conv => whnf))
      | (refine ⟨_, _, _, _, rfl, ?_⟩; (conv => whnf))
      | (refine And.intro (fun c => ?_) (fun c => ?_) <;> (first | (exact absurd c (by decide +kernel)) | (conv => whnf)))
      | fail)
    · have c' : J 0 1 + Int32.ofInt 20 ≤ Int32.ofInt 600 := by assumption
      simp only [xl_n, htp, nI_add] at c'
      rw [nI_leI (by omega) (by omega)] at c'
      omega
    · exact t_ask hQ hg t_sp.rf h01 xl_m
theorem ct_X11_feed {Iv : xI} (hI : xm_good Iv) : xm_Ct Iv yX11_feed (ws_ yX11_feed cX11_feed 8 (some .int)) 1 0 0 S_X11_feed := xm_enter (rt := 0) (init := false) (by decide +kernel) rfl (fun h => by cases h) (Or.inl ⟨rfl, rfl⟩) (oX11_feed hI) body_X11_feed
theorem cv_X11_feed {Iv : xI} {own : String} {cc : ByteArray} {fr pc idx : Nat} (hI : xm_good Iv) (hdg : decode cc pc = .ok (.invokevirtual idx, 3)) (hl : xm_ml own idx yX11_feed) (hfr : 1 < fr) : xm_CallOK Iv own cc fr pc (pc + 3) 6 0 0 (xm_this 8 S_X11_feed) := xm_callV 8 hI (ct_X11_feed hI) hdg hl q2130 q2131 q145 q2132 rfl rfl (by decide +kernel) hfr (by decide)

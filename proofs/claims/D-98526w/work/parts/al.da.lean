/-! ===== the component: who speaks, who is first, what is fair ===== -/
set_option maxRecDepth 100000
def g_spf (G : gG) (k i : Nat) (s : Int32) : Int32 := t_fold i (fun j s => s + if g_spk1 G k (k + 1 + j) = true then nI 1 else nI 0) s
def g_spa (G : gG) (n k : Nat) : Int32 := t_fold k (fun h s => g_spf G h (n - (h + 1)) s) (nI 0)
theorem g_spf_s {G : gG} {k i : Nat} {s : Int32} : g_spf G k (i + 1) s = g_spf G k i s + if g_spk1 G k (k + 1 + i) = true then nI 1 else nI 0 := rfl
theorem g_spa_s {G : gG} {n k : Nat} : g_spa G n (k + 1) = g_spf G k (n - (k + 1)) (g_spa G n k) := rfl
theorem t_fold_add {f : Nat → Int32} : ∀ {n : Nat} {s : Int32}, t_fold n (fun j s => s + f j) s = s + t_sum n f
  | 0, s => (Int32.add_zero s).symm
  | n + 1, s => by
    rw [t_fold_s, t_fold_add, t_sum_s, Int32.add_assoc]
theorem t_sum_add {f g : Nat → Int32} : ∀ {n : Nat}, t_sum n (fun k => f k + g k) = t_sum n f + t_sum n g
  | 0 => rfl
  | n + 1 => by
    rw [t_sum_s, t_sum_add, t_sum_s, t_sum_s, Int32.add_assoc, Int32.add_assoc, ← Int32.add_assoc (t_sum n g), Int32.add_comm (t_sum n g) (f n), Int32.add_assoc]
theorem g_spa_eq {G : gG} {n : Nat} : ∀ {k : Nat}, g_spa G n k = t_sum k fun h => t_sum (n - (h + 1)) fun j => if g_spk1 G h (h + 1 + j) = true then nI 1 else nI 0
  | 0 => rfl
  | k + 1 => by
    rw [g_spa_s, g_spa_eq, t_sum_s]
    exact t_fold_add
theorem g_spk_eq {G : gG} (hs : ∀ h g, h < 9 → g < 9 → t_has (gsil G h) g = t_has (gsil G g) h) : ∀ {n : Nat}, n ≤ 9 → g_spa G n n = g_spk G n
  | 0, _ => rfl
  | n + 1, hn => by
    rw [g_spk_s, ← g_spk_eq hs (by omega), g_spa_eq, g_spa_eq, t_sum_s]
    have e1 : t_sum n (fun h => t_sum (n + 1 - (h + 1)) fun j => if g_spk1 G h (h + 1 + j) = true then nI 1 else nI 0) = t_sum n (fun h => (t_sum (n - (h + 1)) fun j => if g_spk1 G h (h + 1 + j) = true then nI 1 else nI 0) + if g_spk1 G n h = true then nI 1 else nI 0) := t_sum_c fun k hk => by
      rw [show n + 1 - (k + 1) = n - (k + 1) + 1 by omega, t_sum_s, show k + 1 + (n - (k + 1)) = n by omega]
      have : g_spk1 G k n = g_spk1 G n k := by
        unfold g_spk1
        rw [hs k n (by omega) (by omega), Bool.and_comm (g_al (gGK G) (gnow G) k)]
      rw [this]
    rw [e1, t_sum_add, show n + 1 - (n + 1) = 0 by omega, t_sum_0, show nI 0 = 0 from rfl, Int32.add_zero]
    exact (t_fold_add (f := fun g => if g_spk1 G n g = true then nI 1 else nI 0)).symm
theorem t_has_n0 {x : Int32} {k : Nat} : t_has x k = !decide ((x >>> (nI k &&& 31)) &&& nI 1 = nI 0) := by
  by_cases h : (x >>> (nI k &&& 31)) &&& nI 1 = nI 0
  · rw [t_has_f h, decide_eq_true h]
    rfl
  · rw [t_has_t h, decide_eq_false h]
    rfl
abbrev bX1_speaks_0 : List xE := [(.iconst 0, 1, 0, 0, 0), (.istore_n 1, 2, 0, 0, 0), (.iconst 0, 3, 0, 0, 0), (.istore_n 2, 4, 0, 0, 0)]
abbrev bX1_speaks_4 : List xE := [(.iload_n 2, 5, 0, 0, 0), (.aload_n 0, 6, 0, 0, 0), (.getfield 31, 9, 0, 0, 1), (.getfield 126, 12, 1, 11, 0), (.if_icmp .ge 80, 15, 0, 92, 0), (.iload_n 2, 16, 0, 0, 0), (.iconst 1, 17, 0, 0, 0), (.iadd, 18, 0, 0, 0), (.istore_n 3, 19, 0, 0, 0)]
abbrev bX1_speaks_19 : List xE := [(.iload_n 3, 20, 0, 0, 0), (.aload_n 0, 21, 0, 0, 0), (.getfield 31, 24, 0, 0, 1), (.getfield 126, 27, 1, 11, 0), (.if_icmp .ge 59, 30, 0, 86, 0), (.iload_n 1, 31, 0, 0, 0), (.aload_n 0, 32, 0, 0, 0), (.getfield 58, 35, 0, 5, 1), (.getfield 226, 38, 7, 0, 1), (.iload_n 2, 39, 0, 0, 0), (.iaload, 40, 0, 0, 0), (.iconst 1, 41, 0, 0, 0), (.if_icmp .ne 36, 44, 0, 77, 0), (.aload_n 0, 45, 0, 0, 0), (.getfield 58, 48, 0, 5, 1), (.getfield 226, 51, 7, 0, 1), (.iload_n 3, 52, 0, 0, 0), (.iaload, 53, 0, 0, 0), (.iconst 1, 54, 0, 0, 0), (.if_icmp .ne 23, 57, 0, 77, 0), (.aload_n 0, 58, 0, 0, 0), (.getfield 31, 61, 0, 0, 1), (.getfield 322, 64, 1, 3, 1), (.iload_n 2, 65, 0, 0, 0), (.iaload, 66, 0, 0, 0), (.iload_n 3, 67, 0, 0, 0), (.ishr, 68, 0, 0, 0), (.iconst 1, 69, 0, 0, 0), (.iand, 70, 0, 0, 0), (.ifCond .ne 7, 73, 0, 77, 0), (.iconst 1, 74, 0, 0, 0), (.goto 4, 77, 0, 78, 0)]
abbrev bX1_speaks_77 : List xE := [(.iconst 0, 78, 0, 0, 0)]
abbrev bX1_speaks_78 : List xE := [(.iadd, 79, 0, 0, 0), (.istore_n 1, 80, 0, 0, 0), (.iinc 3 1, 83, 0, 0, 0), (.goto (-64), 86, 0, 19, 0)]
abbrev bX1_speaks_86 : List xE := [(.iinc 2 1, 89, 0, 0, 0), (.goto (-85), 92, 0, 4, 0)]
abbrev bX1_speaks_92 : List xE := [(.iload_n 1, 93, 0, 0, 0), (.ireturn, 94, 0, 0, 0)]
abbrev kX1_speaks : List (Nat × List xE) := [(0, bX1_speaks_0), (4, bX1_speaks_4), (19, bX1_speaks_19), (77, bX1_speaks_77), (78, bX1_speaks_78), (86, bX1_speaks_86), (92, bX1_speaks_92)]
abbrev lX1_speaks : List (Nat × Nat × Nat × xS) := []
theorem oX1_speaks_0  : xm_okb cI RX1 cX1_speaks false 1 lX1_speaks bX1_speaks_0 0 := xo_0 dX1_speaks_0 rfl trivial (xo_0 dX1_speaks_1 rfl trivial (xo_0 dX1_speaks_2 rfl trivial (xo_0 dX1_speaks_3 rfl trivial (xo_n))))
theorem oX1_speaks_4  : xm_okb cI RX1 cX1_speaks false 1 lX1_speaks bX1_speaks_4 4 := xo_0 dX1_speaks_4 rfl trivial (xo_0 dX1_speaks_5 rfl trivial (xo_1 dX1_speaks_6 rfl (xm_fg_of (Or.inl q716) (by decide) rfl (by decide) rfl rfl (Or.inl rfl) rfl) (xo_0 dX1_speaks_9 rfl (xm_fg_of (Or.inr ⟨_, q556⟩) (by decide) rfl (by decide) rfl rfl (Or.inl rfl) rfl) (xo_0 dX1_speaks_12 rfl rfl (xo_0 dX1_speaks_15 rfl trivial (xo_0 dX1_speaks_16 rfl trivial (xo_0 dX1_speaks_17 rfl trivial (xo_0 dX1_speaks_18 rfl trivial (xo_n)))))))))
theorem oX1_speaks_19  : xm_okb cI RX1 cX1_speaks false 1 lX1_speaks bX1_speaks_19 19 := xo_0 dX1_speaks_19 rfl trivial (xo_0 dX1_speaks_20 rfl trivial (xo_1 dX1_speaks_21 rfl (xm_fg_of (Or.inl q716) (by decide) rfl (by decide) rfl rfl (Or.inl rfl) rfl) (xo_0 dX1_speaks_24 rfl (xm_fg_of (Or.inr ⟨_, q556⟩) (by decide) rfl (by decide) rfl rfl (Or.inl rfl) rfl) (xo_0 dX1_speaks_27 rfl rfl (xo_0 dX1_speaks_30 rfl trivial (xo_0 dX1_speaks_31 rfl trivial (xo_1 dX1_speaks_32 rfl (xm_fg_of (Or.inl q724) (by decide) rfl (by decide) rfl rfl (Or.inl rfl) rfl) (xo_1 dX1_speaks_35 rfl (xm_fg_of (Or.inr ⟨_, q663⟩) (by decide) rfl (by decide) rfl rfl (Or.inl rfl) rfl) (xo_0 dX1_speaks_38 rfl trivial (xo_0 dX1_speaks_39 rfl trivial (xo_0 dX1_speaks_40 rfl trivial (xo_0 dX1_speaks_41 rfl rfl (xo_0 dX1_speaks_44 rfl trivial (xo_1 dX1_speaks_45 rfl (xm_fg_of (Or.inl q724) (by decide) rfl (by decide) rfl rfl (Or.inl rfl) rfl) (xo_1 dX1_speaks_48 rfl (xm_fg_of (Or.inr ⟨_, q663⟩) (by decide) rfl (by decide) rfl rfl (Or.inl rfl) rfl) (xo_0 dX1_speaks_51 rfl trivial (xo_0 dX1_speaks_52 rfl trivial (xo_0 dX1_speaks_53 rfl trivial (xo_0 dX1_speaks_54 rfl rfl (xo_0 dX1_speaks_57 rfl trivial (xo_1 dX1_speaks_58 rfl (xm_fg_of (Or.inl q716) (by decide) rfl (by decide) rfl rfl (Or.inl rfl) rfl) (xo_1 dX1_speaks_61 rfl (xm_fg_of (Or.inr ⟨_, q528⟩) (by decide) rfl (by decide) rfl rfl (Or.inl rfl) rfl) (xo_0 dX1_speaks_64 rfl trivial (xo_0 dX1_speaks_65 rfl trivial (xo_0 dX1_speaks_66 rfl trivial (xo_0 dX1_speaks_67 rfl trivial (xo_0 dX1_speaks_68 rfl trivial (xo_0 dX1_speaks_69 rfl trivial (xo_0 dX1_speaks_70 rfl rfl (xo_0 dX1_speaks_73 rfl trivial (xo_0 dX1_speaks_74 rfl rfl (xo_n))))))))))))))))))))))))))))))))
theorem oX1_speaks_77  : xm_okb cI RX1 cX1_speaks false 1 lX1_speaks bX1_speaks_77 77 := xo_0 dX1_speaks_77 rfl trivial (xo_n)
theorem oX1_speaks_78  : xm_okb cI RX1 cX1_speaks false 1 lX1_speaks bX1_speaks_78 78 := xo_0 dX1_speaks_78 rfl trivial (xo_0 dX1_speaks_79 rfl trivial (xo_0 dX1_speaks_80 rfl trivial (xo_0 dX1_speaks_83 rfl rfl (xo_n))))
theorem oX1_speaks_86  : xm_okb cI RX1 cX1_speaks false 1 lX1_speaks bX1_speaks_86 86 := xo_0 dX1_speaks_86 rfl trivial (xo_0 dX1_speaks_89 rfl rfl (xo_n))
theorem oX1_speaks_92  : xm_okb cI RX1 cX1_speaks false 1 lX1_speaks bX1_speaks_92 92 := xo_0 dX1_speaks_92 rfl trivial (xo_0 dX1_speaks_93 rfl trivial (xo_n))
theorem oX1_speaks  : ∀ q ∈ kX1_speaks, xm_okb cI RX1 cX1_speaks false 1 lX1_speaks q.2 q.1 := by
  intro q hq
  simp only [List.mem_cons, List.not_mem_nil, or_false] at hq
  rcases hq with rfl | rfl | rfl | rfl | rfl | rfl | rfl
  · exact oX1_speaks_0  
  · exact oX1_speaks_4  
  · exact oX1_speaks_19  
  · exact oX1_speaks_77  
  · exact oX1_speaks_78  
  · exact oX1_speaks_86  
  · exact oX1_speaks_92  
def S_X1_speaks : xS := cU fun as P Z I Q QX => ∃ L, as = [.ref 0] ∧ c_good P Z I L ∧ g_ok (cG P I L) ∧ c_P P Z L (cG P I L) Q QX (q_speaks (cG P I L))
theorem body_X1_speaks : xm_Body 4 0 0 0 [] lX1_speaks kX1_speaks S_X1_speaks := by
  intro X avs w Q QX hX0 hS
  have hG := xm_go [] hX0
  have hX := xm_go [4,19] hX0
  clear hX0
  obtain ⟨P, Z, I, rfl, L, rfl, hg, hk0, hQ⟩ := hS
  have hok := hg.ok
  obtain ⟨hn, h9, hm, h8⟩ := id hok
  have h5 := c_5 (P := P)
  have hi := hg.now.2.2.1
  have loop : ∀ k, k ≤ c_h I → ∀ o, (o = none ∨ ∃ z, o = some (.int z)) → X 4 [some (.ref 0), some (.int (g_spa (cG P I L) (c_h I) k)), some (.int (nI k)), o] [] (cW P Z I) 0 0 := by
    refine t_for fun k h1 ih o ho => ?_
    have inner : k < c_h I → ∀ j, j ≤ c_h I - (k + 1) → X 19 [some (.ref 0), some (.int (g_spf (cG P I L) k j (g_spa (cG P I L) (c_h I) k))), some (.int (nI k)), some (.int (nI (k + 1 + j)))] [] (cW P Z I) 0 0 := by
      intro hk
      refine t_for fun j j1 jh => ?_
      refine hG _ _ _ _ _ _ ?_
      (conv => whnf)
      repeat' (first
        | ((with_reducible refine @And.intro (vp_in _ _) _ ?_ ?_); (· (first | with_reducible assumption | ((with_reducible refine t_vin ?_); decide) | ((with_reducible refine vp_in_nI ?_ ?_) <;> first | omega | decide) | (simp (disch := omega) only [xl_n, xl_m, nI_dec, nI_sb, nI_add, pk_mul]; (with_reducible refine vp_in_nI ?_ ?_) <;> first | omega | decide))); (conv => whnf))
        | (refine And.intro (by first | with_reducible assumption | exact (show cL _ _ = _ from rfl) | decide) ?_; (conv => whnf))
        | ((with_reducible refine @And.intro (_ = _) _ ?_ ?_); (· rfl); (conv => whnf))
        | ((with_reducible refine @And.intro (@LE.le Nat _ _ _) _ ?_ ?_); (· (first | exact Nat.zero_le _ | exact Nat.le_of_ble_eq_true rfl | omega)); (conv => whnf))
        | ((with_reducible refine @And.intro (@LT.lt Nat _ _ _) _ ?_ ?_); (· omega); (conv => whnf))
        | ((with_reducible refine @And.intro (∃ _, _ = _) _ ?_ ?_); (· exact ⟨_, rfl⟩); (conv => whnf))
        | ((with_reducible refine @And.intro (_ ∨ _) _ ?_ ?_); (· (first | exact Or.inl rfl | exact Or.inr rfl | exact t_b01 _ | assumption)); (conv => whnf))
        | ((with_reducible refine @And.intro (¬ (_ = _)) _ ?_ ?_); (· first | assumption | (with_reducible assumption)); (conv => whnf))
        | (refine hX _ _ _ _ _ _ ?_; (conv => whnf); fail_if_success show False)
        | (rw [c_si]; (conv => whnf))
        | (refine ⟨_, rfl, ?_⟩; (conv => whnf))
        | (refine ⟨_, _, rfl, ?_⟩; (conv => whnf))
        | (refine ⟨_, _, _, rfl, ?_⟩; (conv => whnf))
        | (refine ⟨_, _, _, _, rfl, ?_⟩; (conv => whnf))
        | fail)
      refine And.intro (fun c => ?_) (fun c => ?_) <;> (conv => whnf)
      · have : j = c_h I - (k + 1) := by
          have := t_kge hn c (by omega) (by omega)
          omega
        subst this
        have nx := ih (k + 1) (by omega) (by omega) (some (.int (nI (k + 1 + (c_h I - (k + 1)))))) (Or.inr ⟨_, rfl⟩)
        clear ih jh
        repeat' (first
          | ((with_reducible refine @And.intro (vp_in _ _) _ ?_ ?_); (· (first | with_reducible assumption | ((with_reducible refine t_vin ?_); decide) | ((with_reducible refine vp_in_nI ?_ ?_) <;> first | omega | decide) | (simp (disch := omega) only [xl_n, xl_m, nI_dec, nI_sb, nI_add, pk_mul]; (with_reducible refine vp_in_nI ?_ ?_) <;> first | omega | decide))); (conv => whnf))
          | (refine And.intro (by first | with_reducible assumption | exact (show cL _ _ = _ from rfl) | decide) ?_; (conv => whnf))
          | ((with_reducible refine @And.intro (_ = _) _ ?_ ?_); (· rfl); (conv => whnf))
          | ((with_reducible refine @And.intro (@LE.le Nat _ _ _) _ ?_ ?_); (· (first | exact Nat.zero_le _ | exact Nat.le_of_ble_eq_true rfl | omega)); (conv => whnf))
          | ((with_reducible refine @And.intro (@LT.lt Nat _ _ _) _ ?_ ?_); (· omega); (conv => whnf))
          | ((with_reducible refine @And.intro (∃ _, _ = _) _ ?_ ?_); (· exact ⟨_, rfl⟩); (conv => whnf))
          | ((with_reducible refine @And.intro (_ ∨ _) _ ?_ ?_); (· (first | exact Or.inl rfl | exact Or.inr rfl | exact t_b01 _ | assumption)); (conv => whnf))
          | ((with_reducible refine @And.intro (¬ (_ = _)) _ ?_ ?_); (· first | assumption | (with_reducible assumption)); (conv => whnf))
          | (refine hX _ _ _ _ _ _ ?_; (conv => whnf); fail_if_success show False)
          | (rw [c_si]; (conv => whnf))
          | (refine ⟨_, rfl, ?_⟩; (conv => whnf))
          | (refine ⟨_, _, rfl, ?_⟩; (conv => whnf))
          | (refine ⟨_, _, _, rfl, ?_⟩; (conv => whnf))
          | (refine ⟨_, _, _, _, rfl, ?_⟩; (conv => whnf))
          | (refine And.intro (fun c => ?_) (fun c => ?_) <;> (first | (exact absurd c (by decide +kernel)) | (conv => whnf)))
          | fail)
        clear hX hG hQ
        simp (disch := omega) only [xl_n, xl_m, nI_dec, nI_sb, xl_0, xl_1, cW_i, Nat.add_zero, Nat.reduceAdd, Nat.reduceMul, t_bn0, t_bn1, Classical.not_not, t_lt, nI_add, nI_1, pk_mul, nI_clamp, c_si, nI_eq, nI_leI, nM_ne, nM_ne, xm_set, xm_lv0, xm_psh] at *
        rw [g_spa_s] at nx
        exact nx
      · have hj : k + 1 + j < c_h I := t_klt hn c (by omega)
        have nx := jh (j + 1) (by omega) (by omega)
        rw [g_spf_s] at nx
        have e1 : g_spk1 (cG P I L) k (k + 1 + j) = (decide (I (10 * 5) k = nI 1) && decide (I (10 * 5) (k + 1 + j) = nI 1) && decide ((I 33 k >>> (nI (k + 1 + j) &&& 31)) &&& nI 1 = nI 0)) := by
          unfold g_spk1
          have es : gsil (cG P I L) k = I 33 k := if_pos (by omega)
          rw [es, show g_al (gGK (cG P I L)) (gnow (cG P I L)) k = _ from c_is_ald (L := L) hi hk, show g_al (gGK (cG P I L)) (gnow (cG P I L)) (k + 1 + j) = _ from c_is_ald (L := L) hi hj, t_has_n0, Bool.not_not]
        rw [e1, ← Nat.add_assoc] at nx
        generalize k + 1 + j = g at hj nx ⊢
        clear ih jh e1
        repeat' (first
          | ((with_reducible refine @And.intro (vp_in _ _) _ ?_ ?_); (· (first | with_reducible assumption | ((with_reducible refine t_vin ?_); decide) | ((with_reducible refine vp_in_nI ?_ ?_) <;> first | omega | decide) | (simp (disch := omega) only [xl_n, xl_m, nI_dec, nI_sb, nI_add, pk_mul]; (with_reducible refine vp_in_nI ?_ ?_) <;> first | omega | decide))); (conv => whnf))
          | (refine And.intro (by first | with_reducible assumption | exact (show cL _ _ = _ from rfl) | decide) ?_; (conv => whnf))
          | ((with_reducible refine @And.intro (_ = _) _ ?_ ?_); (· rfl); (conv => whnf))
          | ((with_reducible refine @And.intro (@LE.le Nat _ _ _) _ ?_ ?_); (· (first | exact Nat.zero_le _ | exact Nat.le_of_ble_eq_true rfl | omega)); (conv => whnf))
          | ((with_reducible refine @And.intro (@LT.lt Nat _ _ _) _ ?_ ?_); (· omega); (conv => whnf))
          | ((with_reducible refine @And.intro (∃ _, _ = _) _ ?_ ?_); (· exact ⟨_, rfl⟩); (conv => whnf))
          | ((with_reducible refine @And.intro (_ ∨ _) _ ?_ ?_); (· (first | exact Or.inl rfl | exact Or.inr rfl | exact t_b01 _ | assumption)); (conv => whnf))
          | ((with_reducible refine @And.intro (¬ (_ = _)) _ ?_ ?_); (· first | assumption | (with_reducible assumption)); (conv => whnf))
          | (refine hX _ _ _ _ _ _ ?_; (conv => whnf); fail_if_success show False)
          | (rw [c_si]; (conv => whnf))
          | (refine ⟨_, rfl, ?_⟩; (conv => whnf))
          | (refine ⟨_, _, rfl, ?_⟩; (conv => whnf))
          | (refine ⟨_, _, _, rfl, ?_⟩; (conv => whnf))
          | (refine ⟨_, _, _, _, rfl, ?_⟩; (conv => whnf))
          | (rw [c_tl h5]; (conv => whnf))
          | (rw [c_t7 h5]; (conv => whnf))
          | (rw [c_tf h5 (by decide)]; (conv => whnf))
          | (rw [c_t0 h5]; (conv => whnf))
          | (rw [c_t1 h5]; (conv => whnf))
          | (rw [c_t2 h5]; (conv => whnf))
          | (rw [c_t3 h5]; (conv => whnf))
          | (rw [c_t4 h5]; (conv => whnf))
          | (rw [c_t5 h5]; (conv => whnf))
          | (refine And.intro ⟨_, c_tl h5⟩ ?_; (conv => whnf))
          | (refine And.intro (fun c => ?_) (fun c => ?_) <;> (first | (exact absurd c (by decide +kernel)) | (conv => whnf)))
          | fail)
        all_goals clear hX hG hQ
        all_goals simp (disch := omega) only [xl_n, xl_m, nI_dec, nI_sb, xl_0, xl_1, cW_i, Nat.add_zero, Nat.reduceAdd, Nat.reduceMul, t_bn0, t_bn1, Classical.not_not, t_lt, nI_add, nI_1, pk_mul, nI_clamp, c_si, nI_eq, nI_leI, nM_ne, nM_ne, xm_set, xm_lv0, xm_psh] at *
        all_goals simpa [*] using nx
    rcases ho with rfl | ⟨z, rfl⟩
    all_goals
      refine hG _ _ _ _ _ _ ?_
      (conv => whnf)
      repeat' (first
        | ((with_reducible refine @And.intro (vp_in _ _) _ ?_ ?_); (· (first | with_reducible assumption | ((with_reducible refine t_vin ?_); decide) | ((with_reducible refine vp_in_nI ?_ ?_) <;> first | omega | decide) | (simp (disch := omega) only [xl_n, xl_m, nI_dec, nI_sb, nI_add, pk_mul]; (with_reducible refine vp_in_nI ?_ ?_) <;> first | omega | decide))); (conv => whnf))
        | (refine And.intro (by first | with_reducible assumption | exact (show cL _ _ = _ from rfl) | decide) ?_; (conv => whnf))
        | ((with_reducible refine @And.intro (_ = _) _ ?_ ?_); (· rfl); (conv => whnf))
        | ((with_reducible refine @And.intro (@LE.le Nat _ _ _) _ ?_ ?_); (· (first | exact Nat.zero_le _ | exact Nat.le_of_ble_eq_true rfl | omega)); (conv => whnf))
        | ((with_reducible refine @And.intro (@LT.lt Nat _ _ _) _ ?_ ?_); (· omega); (conv => whnf))
        | ((with_reducible refine @And.intro (∃ _, _ = _) _ ?_ ?_); (· exact ⟨_, rfl⟩); (conv => whnf))
        | ((with_reducible refine @And.intro (_ ∨ _) _ ?_ ?_); (· (first | exact Or.inl rfl | exact Or.inr rfl | exact t_b01 _ | assumption)); (conv => whnf))
        | ((with_reducible refine @And.intro (¬ (_ = _)) _ ?_ ?_); (· first | assumption | (with_reducible assumption)); (conv => whnf))
        | (refine hX _ _ _ _ _ _ ?_; (conv => whnf); fail_if_success show False)
        | (rw [c_si]; (conv => whnf))
        | (refine ⟨_, rfl, ?_⟩; (conv => whnf))
        | (refine ⟨_, _, rfl, ?_⟩; (conv => whnf))
        | (refine ⟨_, _, _, rfl, ?_⟩; (conv => whnf))
        | (refine ⟨_, _, _, _, rfl, ?_⟩; (conv => whnf))
        | fail)
      refine And.intro (fun c => ?_) (fun c => ?_) <;> (conv => whnf)
      · repeat' (first
          | ((with_reducible refine @And.intro (vp_in _ _) _ ?_ ?_); (· (first | with_reducible assumption | ((with_reducible refine t_vin ?_); decide) | ((with_reducible refine vp_in_nI ?_ ?_) <;> first | omega | decide) | (simp (disch := omega) only [xl_n, xl_m, nI_dec, nI_sb, nI_add, pk_mul]; (with_reducible refine vp_in_nI ?_ ?_) <;> first | omega | decide))); (conv => whnf))
          | (refine And.intro (by first | with_reducible assumption | exact (show cL _ _ = _ from rfl) | decide) ?_; (conv => whnf))
          | ((with_reducible refine @And.intro (_ = _) _ ?_ ?_); (· rfl); (conv => whnf))
          | ((with_reducible refine @And.intro (@LE.le Nat _ _ _) _ ?_ ?_); (· (first | exact Nat.zero_le _ | exact Nat.le_of_ble_eq_true rfl | omega)); (conv => whnf))
          | ((with_reducible refine @And.intro (@LT.lt Nat _ _ _) _ ?_ ?_); (· omega); (conv => whnf))
          | ((with_reducible refine @And.intro (∃ _, _ = _) _ ?_ ?_); (· exact ⟨_, rfl⟩); (conv => whnf))
          | ((with_reducible refine @And.intro (_ ∨ _) _ ?_ ?_); (· (first | exact Or.inl rfl | exact Or.inr rfl | exact t_b01 _ | assumption)); (conv => whnf))
          | ((with_reducible refine @And.intro (¬ (_ = _)) _ ?_ ?_); (· first | assumption | (with_reducible assumption)); (conv => whnf))
          | (refine hX _ _ _ _ _ _ ?_; (conv => whnf); fail_if_success show False)
          | (rw [c_si]; (conv => whnf))
          | (refine ⟨_, rfl, ?_⟩; (conv => whnf))
          | (refine ⟨_, _, rfl, ?_⟩; (conv => whnf))
          | (refine ⟨_, _, _, rfl, ?_⟩; (conv => whnf))
          | (refine ⟨_, _, _, _, rfl, ?_⟩; (conv => whnf))
          | (refine And.intro (fun c => ?_) (fun c => ?_) <;> (first | (exact absurd c (by decide +kernel)) | (conv => whnf)))
          | fail)
        have : k = c_h I := Nat.le_antisymm h1 (t_kge hn c (by omega) (by omega))
        subst this
        exact c_ask hQ hg c_sp.rf (g_spk_eq hk0.2.1.2.1 h9)
      · have hk : k < c_h I := t_klt hn c (by omega)
        have fin := inner hk 0 (Nat.zero_le _)
        clear inner ih
        repeat' (first
          | ((with_reducible refine @And.intro (vp_in _ _) _ ?_ ?_); (· (first | with_reducible assumption | ((with_reducible refine t_vin ?_); decide) | ((with_reducible refine vp_in_nI ?_ ?_) <;> first | omega | decide) | (simp (disch := omega) only [xl_n, xl_m, nI_dec, nI_sb, nI_add, pk_mul]; (with_reducible refine vp_in_nI ?_ ?_) <;> first | omega | decide))); (conv => whnf))
          | (refine And.intro (by first | with_reducible assumption | exact (show cL _ _ = _ from rfl) | decide) ?_; (conv => whnf))
          | ((with_reducible refine @And.intro (_ = _) _ ?_ ?_); (· rfl); (conv => whnf))
          | ((with_reducible refine @And.intro (@LE.le Nat _ _ _) _ ?_ ?_); (· (first | exact Nat.zero_le _ | exact Nat.le_of_ble_eq_true rfl | omega)); (conv => whnf))
          | ((with_reducible refine @And.intro (@LT.lt Nat _ _ _) _ ?_ ?_); (· omega); (conv => whnf))
          | ((with_reducible refine @And.intro (∃ _, _ = _) _ ?_ ?_); (· exact ⟨_, rfl⟩); (conv => whnf))
          | ((with_reducible refine @And.intro (_ ∨ _) _ ?_ ?_); (· (first | exact Or.inl rfl | exact Or.inr rfl | exact t_b01 _ | assumption)); (conv => whnf))
          | ((with_reducible refine @And.intro (¬ (_ = _)) _ ?_ ?_); (· first | assumption | (with_reducible assumption)); (conv => whnf))
          | (refine hX _ _ _ _ _ _ ?_; (conv => whnf); fail_if_success show False)
          | (rw [c_si]; (conv => whnf))
          | (refine ⟨_, rfl, ?_⟩; (conv => whnf))
          | (refine ⟨_, _, rfl, ?_⟩; (conv => whnf))
          | (refine ⟨_, _, _, rfl, ?_⟩; (conv => whnf))
          | (refine ⟨_, _, _, _, rfl, ?_⟩; (conv => whnf))
          | (refine And.intro (fun c => ?_) (fun c => ?_) <;> (first | (exact absurd c (by decide +kernel)) | (conv => whnf)))
          | fail)
        clear hX hG hQ
        simp (disch := omega) only [xl_n, xl_m, nI_dec, nI_sb, xl_0, xl_1, cW_i, Nat.add_zero, Nat.reduceAdd, Nat.reduceMul, t_bn0, t_bn1, Classical.not_not, t_lt, nI_add, nI_1, pk_mul, nI_clamp, c_si, nI_eq, nI_leI, nM_ne, nM_ne, xm_set, xm_lv0, xm_psh] at *
        exact fin
  refine ⟨rfl, ?_⟩
  repeat' (first
    | ((with_reducible refine @And.intro (vp_in _ _) _ ?_ ?_); (· (first | with_reducible assumption | ((with_reducible refine t_vin ?_); decide) | ((with_reducible refine vp_in_nI ?_ ?_) <;> first | omega | decide) | (simp (disch := omega) only [xl_n, xl_m, nI_dec, nI_sb, nI_add, pk_mul]; (with_reducible refine vp_in_nI ?_ ?_) <;> first | omega | decide))); (conv => whnf))
    | (refine And.intro (by first | with_reducible assumption | exact (show cL _ _ = _ from rfl) | decide) ?_; (conv => whnf))
    | ((with_reducible refine @And.intro (_ = _) _ ?_ ?_); (· rfl); (conv => whnf))
    | ((with_reducible refine @And.intro (@LE.le Nat _ _ _) _ ?_ ?_); (· (first | exact Nat.zero_le _ | exact Nat.le_of_ble_eq_true rfl | omega)); (conv => whnf))
    | ((with_reducible refine @And.intro (@LT.lt Nat _ _ _) _ ?_ ?_); (· omega); (conv => whnf))
    | ((with_reducible refine @And.intro (∃ _, _ = _) _ ?_ ?_); (· exact ⟨_, rfl⟩); (conv => whnf))
    | ((with_reducible refine @And.intro (_ ∨ _) _ ?_ ?_); (· (first | exact Or.inl rfl | exact Or.inr rfl | exact t_b01 _ | assumption)); (conv => whnf))
    | ((with_reducible refine @And.intro (¬ (_ = _)) _ ?_ ?_); (· first | assumption | (with_reducible assumption)); (conv => whnf))
    | (refine hX _ _ _ _ _ _ ?_; (conv => whnf); fail_if_success show False)
    | (rw [c_si]; (conv => whnf))
    | (refine ⟨_, rfl, ?_⟩; (conv => whnf))
    | (refine ⟨_, _, rfl, ?_⟩; (conv => whnf))
    | (refine ⟨_, _, _, rfl, ?_⟩; (conv => whnf))
    | (refine ⟨_, _, _, _, rfl, ?_⟩; (conv => whnf))
    | (refine And.intro (fun c => ?_) (fun c => ?_) <;> (first | (exact absurd c (by decide +kernel)) | (conv => whnf)))
    | fail)
  exact loop 0 (Nat.zero_le _) none (Or.inl rfl)
theorem ct_X1_speaks : xm_Ct cI yX1_speaks (ws_ yX1_speaks cX1_speaks 4 (some .int)) 1 0 0 S_X1_speaks := xm_enter (rt := 0) (init := false) (by decide +kernel) rfl (fun h => by cases h) (Or.inl ⟨rfl, rfl⟩) (oX1_speaks) body_X1_speaks
theorem cv_X1_speaks {own : String} {cc : ByteArray} {fr pc idx : Nat} (hdg : decode cc pc = .ok (.invokevirtual idx, 3)) (hl : xm_ml own idx yX1_speaks) (hfr : 1 < fr) : xm_CallOK cI own cc fr pc (pc + 3) 1 0 0 (xm_this 0 S_X1_speaks) := xm_callV 0 cI_good (ct_X1_speaks) hdg hl q1002 q1003 q116 q1004 rfl rfl (by decide +kernel) hfr (by decide)
abbrev bX1_first_0 : List xE := [(.aload_n 0, 1, 0, 0, 0), (.iload_n 1, 2, 0, 0, 0), (.ifCond .eq 8, 5, 0, 10, 0), (.iload_n 1, 6, 0, 0, 0), (.iconst 1, 7, 0, 0, 0), (.if_icmp .ne 7, 10, 0, 14, 0)]
abbrev bX1_first_10 : List xE := [(.iconst 1, 11, 0, 0, 0), (.goto 4, 14, 0, 15, 0)]
abbrev bX1_first_14 : List xE := [(.iconst 0, 15, 0, 0, 0)]
abbrev bX1_first_15 : List xE := [(.invokevirtual 160, 18, 0, 0, 9), (.iconst (-1), 19, 0, 0, 0), (.istore_n 2, 20, 0, 0, 0), (.iconst 0, 21, 0, 0, 0), (.istore_n 3, 22, 0, 0, 0)]
abbrev bX1_first_22 : List xE := [(.iload_n 3, 23, 0, 0, 0), (.aload_n 0, 24, 0, 0, 0), (.getfield 31, 27, 0, 0, 1), (.getfield 126, 30, 1, 11, 0), (.if_icmp .ge 77, 33, 0, 107, 0), (.iload_n 1, 34, 0, 0, 0), (.ifCond .ne 19, 37, 0, 53, 0), (.aload_n 0, 38, 0, 0, 0), (.getfield 58, 41, 0, 5, 1), (.getfield 226, 44, 7, 0, 1), (.iload_n 3, 45, 0, 0, 0), (.iaload, 46, 0, 0, 0), (.iconst 1, 47, 0, 0, 0), (.if_icmp .eq 6, 50, 0, 53, 0), (.goto 51, 53, 0, 101, 0)]
abbrev bX1_first_53 : List xE := [(.iload_n 2, 54, 0, 0, 0), (.iconst (-1), 55, 0, 0, 0), (.if_icmp .eq 44, 58, 0, 99, 0), (.iload_n 1, 59, 0, 0, 0), (.ifCond .ne 27, 62, 0, 86, 0), (.aload_n 0, 63, 0, 0, 0), (.getfield 31, 66, 0, 0, 1), (.getfield 220, 69, 1, 1, 1), (.iload_n 3, 70, 0, 0, 0), (.iaload, 71, 0, 0, 0), (.aload_n 0, 72, 0, 0, 0), (.getfield 31, 75, 0, 0, 1), (.getfield 220, 78, 1, 1, 1), (.iload_n 2, 79, 0, 0, 0), (.iaload, 80, 0, 0, 0), (.if_icmp .ge 21, 83, 0, 101, 0), (.goto 16, 86, 0, 99, 0)]
abbrev bX1_first_86 : List xE := [(.aload_n 0, 87, 0, 0, 0), (.iload_n 3, 88, 0, 0, 0), (.invokevirtual 377, 91, 0, 1, 9), (.aload_n 0, 92, 0, 0, 0), (.iload_n 2, 93, 0, 0, 0), (.invokevirtual 377, 96, 0, 1, 9), (.if_icmp .le 5, 99, 0, 101, 0)]
abbrev bX1_first_99 : List xE := [(.iload_n 3, 100, 0, 0, 0), (.istore_n 2, 101, 0, 0, 0)]
abbrev bX1_first_101 : List xE := [(.iinc 3 1, 104, 0, 0, 0), (.goto (-82), 107, 0, 22, 0)]
abbrev bX1_first_107 : List xE := [(.iload_n 2, 108, 0, 0, 0), (.ireturn, 109, 0, 0, 0)]
abbrev kX1_first : List (Nat × List xE) := [(0, bX1_first_0), (10, bX1_first_10), (14, bX1_first_14), (15, bX1_first_15), (22, bX1_first_22), (53, bX1_first_53), (86, bX1_first_86), (99, bX1_first_99), (101, bX1_first_101), (107, bX1_first_107)]
abbrev lX1_first : List (Nat × Nat × Nat × xS) := [(2, 1, 6, xm_this 0 S_X1_need), (2, 0, 0, xm_this 0 S_X1_netOf)]
theorem oX1_first_0  : xm_okb cI RX1 cX1_first false 7 lX1_first bX1_first_0 0 := xo_0 dX1_first_0 rfl trivial (xo_0 dX1_first_1 rfl trivial (xo_0 dX1_first_2 rfl rfl (xo_0 dX1_first_5 rfl trivial (xo_0 dX1_first_6 rfl trivial (xo_0 dX1_first_7 rfl rfl (xo_n))))))
theorem oX1_first_10  : xm_okb cI RX1 cX1_first false 7 lX1_first bX1_first_10 10 := xo_0 dX1_first_10 rfl trivial (xo_0 dX1_first_11 rfl rfl (xo_n))
theorem oX1_first_14  : xm_okb cI RX1 cX1_first false 7 lX1_first bX1_first_14 14 := xo_0 dX1_first_14 rfl trivial (xo_n)
theorem oX1_first_15  : xm_okb cI RX1 cX1_first false 7 lX1_first bX1_first_15 15 := xo_c rfl (cv_X1_need dX1_first_15 (Or.inl q1030) (by decide)) (xo_0 dX1_first_18 rfl trivial (xo_0 dX1_first_19 rfl trivial (xo_0 dX1_first_20 rfl trivial (xo_0 dX1_first_21 rfl trivial (xo_n)))))
theorem oX1_first_22  : xm_okb cI RX1 cX1_first false 7 lX1_first bX1_first_22 22 := xo_0 dX1_first_22 rfl trivial (xo_0 dX1_first_23 rfl trivial (xo_1 dX1_first_24 rfl (xm_fg_of (Or.inl q716) (by decide) rfl (by decide) rfl rfl (Or.inl rfl) rfl) (xo_0 dX1_first_27 rfl (xm_fg_of (Or.inr ⟨_, q556⟩) (by decide) rfl (by decide) rfl rfl (Or.inl rfl) rfl) (xo_0 dX1_first_30 rfl rfl (xo_0 dX1_first_33 rfl trivial (xo_0 dX1_first_34 rfl rfl (xo_0 dX1_first_37 rfl trivial (xo_1 dX1_first_38 rfl (xm_fg_of (Or.inl q724) (by decide) rfl (by decide) rfl rfl (Or.inl rfl) rfl) (xo_1 dX1_first_41 rfl (xm_fg_of (Or.inr ⟨_, q663⟩) (by decide) rfl (by decide) rfl rfl (Or.inl rfl) rfl) (xo_0 dX1_first_44 rfl trivial (xo_0 dX1_first_45 rfl trivial (xo_0 dX1_first_46 rfl trivial (xo_0 dX1_first_47 rfl rfl (xo_0 dX1_first_50 rfl rfl (xo_n)))))))))))))))
theorem oX1_first_53  : xm_okb cI RX1 cX1_first false 7 lX1_first bX1_first_53 53 := xo_0 dX1_first_53 rfl trivial (xo_0 dX1_first_54 rfl trivial (xo_0 dX1_first_55 rfl rfl (xo_0 dX1_first_58 rfl trivial (xo_0 dX1_first_59 rfl rfl (xo_0 dX1_first_62 rfl trivial (xo_1 dX1_first_63 rfl (xm_fg_of (Or.inl q716) (by decide) rfl (by decide) rfl rfl (Or.inl rfl) rfl) (xo_1 dX1_first_66 rfl (xm_fg_of (Or.inr ⟨_, q521⟩) (by decide) rfl (by decide) rfl rfl (Or.inl rfl) rfl) (xo_0 dX1_first_69 rfl trivial (xo_0 dX1_first_70 rfl trivial (xo_0 dX1_first_71 rfl trivial (xo_1 dX1_first_72 rfl (xm_fg_of (Or.inl q716) (by decide) rfl (by decide) rfl rfl (Or.inl rfl) rfl) (xo_1 dX1_first_75 rfl (xm_fg_of (Or.inr ⟨_, q521⟩) (by decide) rfl (by decide) rfl rfl (Or.inl rfl) rfl) (xo_0 dX1_first_78 rfl trivial (xo_0 dX1_first_79 rfl trivial (xo_0 dX1_first_80 rfl rfl (xo_0 dX1_first_83 rfl rfl (xo_n)))))))))))))))))
theorem oX1_first_86  : xm_okb cI RX1 cX1_first false 7 lX1_first bX1_first_86 86 := xo_0 dX1_first_86 rfl trivial (xo_0 dX1_first_87 rfl trivial (xo_c rfl (cv_X1_netOf dX1_first_88 (Or.inl q1823) (by decide)) (xo_0 dX1_first_91 rfl trivial (xo_0 dX1_first_92 rfl trivial (xo_c rfl (cv_X1_netOf dX1_first_93 (Or.inl q1823) (by decide)) (xo_0 dX1_first_96 rfl rfl (xo_n)))))))
theorem oX1_first_99  : xm_okb cI RX1 cX1_first false 7 lX1_first bX1_first_99 99 := xo_0 dX1_first_99 rfl trivial (xo_0 dX1_first_100 rfl trivial (xo_n))
theorem oX1_first_101  : xm_okb cI RX1 cX1_first false 7 lX1_first bX1_first_101 101 := xo_0 dX1_first_101 rfl trivial (xo_0 dX1_first_104 rfl rfl (xo_n))
theorem oX1_first_107  : xm_okb cI RX1 cX1_first false 7 lX1_first bX1_first_107 107 := xo_0 dX1_first_107 rfl trivial (xo_0 dX1_first_108 rfl trivial (xo_n))
theorem oX1_first  : ∀ q ∈ kX1_first, xm_okb cI RX1 cX1_first false 7 lX1_first q.2 q.1 := by
  intro q hq
  simp only [List.mem_cons, List.not_mem_nil, or_false] at hq
  rcases hq with rfl | rfl | rfl | rfl | rfl | rfl | rfl | rfl | rfl | rfl
  · exact oX1_first_0  
  · exact oX1_first_10  
  · exact oX1_first_14  
  · exact oX1_first_15  
  · exact oX1_first_22  
  · exact oX1_first_53  
  · exact oX1_first_86  
  · exact oX1_first_99  
  · exact oX1_first_101  
  · exact oX1_first_107  
def S_X1_first : xS := cU fun as P Z I Q QX => ∃ a L, as = [.ref 0, .int a] ∧ c_good P Z I L ∧ c_P P Z L (cG P I L) Q QX (q_first (cG P I L) a)
theorem body_X1_first : xm_Body 4 0 1 6 [] lX1_first kX1_first S_X1_first := by
  intro X avs w Q QX hX0 hS
  have hG := xm_go [] hX0
  have hX := xm_go [22] hX0
  clear hX0
  obtain ⟨P, Z, I, rfl, a, L, rfl, hg, hQ⟩ := hS
  have hok := hg.ok
  obtain ⟨hn, h9, hm, h8⟩ := id hok
  have h5 := c_5 (P := P)
  have hi := hg.now.2.2.1
  refine ⟨rfl, ?_⟩
  rcases c_rc a 0 1 (A := 0) (B := Int32.ofInt 1) (by decide +kernel) (by decide +kernel) (by omega) (by omega) with ⟨m, -, hm1, rfl, e1⟩ | ⟨e1, h1⟩ | ⟨e1, h1, h2⟩
  · rw [q_first, e1, g_ck_t, nI_clamp (by omega)] at hQ
    have loop : ∀ k, k ≤ c_h I → X 22 [some (.ref 0), some (.int (nI m)), some (.int (t_o (g_fst (cG P I L) m k))), some (.int (nI k))] [] (cW P Z I) 0 0 := by
      refine t_for fun k h1 ih => ?_
      refine hG _ _ _ _ _ _ ?_
      (conv => whnf)
      repeat' (first
        | ((with_reducible refine @And.intro (vp_in _ _) _ ?_ ?_); (· (first | with_reducible assumption | ((with_reducible refine t_vin ?_); decide) | ((with_reducible refine vp_in_nI ?_ ?_) <;> first | omega | decide) | (simp (disch := omega) only [xl_n, xl_m, nI_dec, nI_sb, nI_add, pk_mul]; (with_reducible refine vp_in_nI ?_ ?_) <;> first | omega | decide))); (conv => whnf))
        | (refine And.intro (by first | with_reducible assumption | exact (show cL _ _ = _ from rfl) | decide) ?_; (conv => whnf))
        | ((with_reducible refine @And.intro (_ = _) _ ?_ ?_); (· rfl); (conv => whnf))
        | ((with_reducible refine @And.intro (@LE.le Nat _ _ _) _ ?_ ?_); (· (first | exact Nat.zero_le _ | exact Nat.le_of_ble_eq_true rfl | omega)); (conv => whnf))
        | ((with_reducible refine @And.intro (@LT.lt Nat _ _ _) _ ?_ ?_); (· omega); (conv => whnf))
        | ((with_reducible refine @And.intro (∃ _, _ = _) _ ?_ ?_); (· exact ⟨_, rfl⟩); (conv => whnf))
        | ((with_reducible refine @And.intro (_ ∨ _) _ ?_ ?_); (· (first | exact Or.inl rfl | exact Or.inr rfl | exact t_b01 _ | assumption)); (conv => whnf))
        | ((with_reducible refine @And.intro (¬ (_ = _)) _ ?_ ?_); (· first | assumption | (with_reducible assumption)); (conv => whnf))
        | (refine hX _ _ _ _ _ _ ?_; (conv => whnf); fail_if_success show False)
        | (rw [c_si]; (conv => whnf))
        | (refine ⟨_, rfl, ?_⟩; (conv => whnf))
        | (refine ⟨_, _, rfl, ?_⟩; (conv => whnf))
        | (refine ⟨_, _, _, rfl, ?_⟩; (conv => whnf))
        | (refine ⟨_, _, _, _, rfl, ?_⟩; (conv => whnf))
        | fail)
      refine And.intro (fun c => ?_) (fun c => ?_) <;> (conv => whnf)
      · repeat' (first
          | ((with_reducible refine @And.intro (vp_in _ _) _ ?_ ?_); (· (first | with_reducible assumption | ((with_reducible refine t_vin ?_); decide) | ((with_reducible refine vp_in_nI ?_ ?_) <;> first | omega | decide) | (simp (disch := omega) only [xl_n, xl_m, nI_dec, nI_sb, nI_add, pk_mul]; (with_reducible refine vp_in_nI ?_ ?_) <;> first | omega | decide))); (conv => whnf))
          | (refine And.intro (by first | with_reducible assumption | exact (show cL _ _ = _ from rfl) | decide) ?_; (conv => whnf))
          | ((with_reducible refine @And.intro (_ = _) _ ?_ ?_); (· rfl); (conv => whnf))
          | ((with_reducible refine @And.intro (@LE.le Nat _ _ _) _ ?_ ?_); (· (first | exact Nat.zero_le _ | exact Nat.le_of_ble_eq_true rfl | omega)); (conv => whnf))
          | ((with_reducible refine @And.intro (@LT.lt Nat _ _ _) _ ?_ ?_); (· omega); (conv => whnf))
          | ((with_reducible refine @And.intro (∃ _, _ = _) _ ?_ ?_); (· exact ⟨_, rfl⟩); (conv => whnf))
          | ((with_reducible refine @And.intro (_ ∨ _) _ ?_ ?_); (· (first | exact Or.inl rfl | exact Or.inr rfl | exact t_b01 _ | assumption)); (conv => whnf))
          | ((with_reducible refine @And.intro (¬ (_ = _)) _ ?_ ?_); (· first | assumption | (with_reducible assumption)); (conv => whnf))
          | (refine hX _ _ _ _ _ _ ?_; (conv => whnf); fail_if_success show False)
          | (rw [c_si]; (conv => whnf))
          | (refine ⟨_, rfl, ?_⟩; (conv => whnf))
          | (refine ⟨_, _, rfl, ?_⟩; (conv => whnf))
          | (refine ⟨_, _, _, rfl, ?_⟩; (conv => whnf))
          | (refine ⟨_, _, _, _, rfl, ?_⟩; (conv => whnf))
          | fail)
        have : k = c_h I := Nat.le_antisymm h1 (t_kge hn c (by omega) (by omega))
        subst this
        exact c_ask hQ hg c_sp.rf rfl
      · have hk : k < c_h I := t_klt hn c (by omega)
        have nx := ih (k + 1) (by omega) (by omega)
        rw [g_fst_s, show g_al (gGK (cG P I L)) (gnow (cG P I L)) k = _ from c_is_ald (L := L) hi hk] at nx
        clear ih
        have b1 : gborn (gGK (cG P I L)) k = I 31 k := cK_born hk
        rcases hb : g_fst (cG P I L) m k with _ | z
        · rw [hb] at nx
          have q : m = 0 ∨ m = 1 := by omega
          rcases q with rfl | rfl
          all_goals
            repeat' (first
              | ((with_reducible refine @And.intro (vp_in _ _) _ ?_ ?_); (· (first | with_reducible assumption | ((with_reducible refine t_vin ?_); decide) | ((with_reducible refine vp_in_nI ?_ ?_) <;> first | omega | decide) | (simp (disch := omega) only [xl_n, xl_m, nI_dec, nI_sb, nI_add, pk_mul]; (with_reducible refine vp_in_nI ?_ ?_) <;> first | omega | decide))); (conv => whnf))
              | (refine And.intro (by first | with_reducible assumption | exact (show cL _ _ = _ from rfl) | decide) ?_; (conv => whnf))
              | ((with_reducible refine @And.intro (_ = _) _ ?_ ?_); (· rfl); (conv => whnf))
              | ((with_reducible refine @And.intro (@LE.le Nat _ _ _) _ ?_ ?_); (· (first | exact Nat.zero_le _ | exact Nat.le_of_ble_eq_true rfl | omega)); (conv => whnf))
              | ((with_reducible refine @And.intro (@LT.lt Nat _ _ _) _ ?_ ?_); (· omega); (conv => whnf))
              | ((with_reducible refine @And.intro (∃ _, _ = _) _ ?_ ?_); (· exact ⟨_, rfl⟩); (conv => whnf))
              | ((with_reducible refine @And.intro (_ ∨ _) _ ?_ ?_); (· (first | exact Or.inl rfl | exact Or.inr rfl | exact t_b01 _ | assumption)); (conv => whnf))
              | ((with_reducible refine @And.intro (¬ (_ = _)) _ ?_ ?_); (· first | assumption | (with_reducible assumption)); (conv => whnf))
              | (refine hX _ _ _ _ _ _ ?_; (conv => whnf); fail_if_success show False)
              | (rw [c_si]; (conv => whnf))
              | (refine ⟨_, rfl, ?_⟩; (conv => whnf))
              | (refine ⟨_, _, rfl, ?_⟩; (conv => whnf))
              | (refine ⟨_, _, _, rfl, ?_⟩; (conv => whnf))
              | (refine ⟨_, _, _, _, rfl, ?_⟩; (conv => whnf))
              | (rw [c_tl h5]; (conv => whnf))
              | (rw [c_t7 h5]; (conv => whnf))
              | (rw [c_tf h5 (by decide)]; (conv => whnf))
              | (rw [c_t0 h5]; (conv => whnf))
              | (rw [c_t1 h5]; (conv => whnf))
              | (rw [c_t2 h5]; (conv => whnf))
              | (rw [c_t3 h5]; (conv => whnf))
              | (rw [c_t4 h5]; (conv => whnf))
              | (rw [c_t5 h5]; (conv => whnf))
              | (refine And.intro ⟨_, c_tl h5⟩ ?_; (conv => whnf))
              | (refine And.intro (fun c => ?_) (fun c => ?_) <;> (first | (exact absurd c (by decide +kernel)) | (conv => whnf)))
              | fail)
            all_goals clear hX hG hQ
            all_goals simp (disch := omega) only [xl_n, xl_m, nI_dec, nI_sb, xl_0, xl_1, cW_i, Nat.add_zero, Nat.reduceAdd, Nat.reduceMul, t_bn0, t_bn1, Classical.not_not, t_lt, nI_add, nI_1, pk_mul, nI_clamp, c_si, nI_eq, nI_leI, nM_ne, nM_ne, xm_set, xm_lv0, xm_psh] at *
            all_goals simp_all [t_o]
        · rw [hb] at nx
          have hz := g_fst_lt hb
          have hzJ : z < c_h I := by omega
          have b2 : gborn (gGK (cG P I L)) z = I 31 z := cK_born hzJ
          simp only [b1, b2] at nx
          have q : m = 0 ∨ m = 1 := by omega
          rw [show t_o (some z) = nI z from rfl]
          rcases q with rfl | rfl
          all_goals
            repeat' (first
              | ((with_reducible refine @And.intro (vp_in _ _) _ ?_ ?_); (· (first | with_reducible assumption | ((with_reducible refine t_vin ?_); decide) | ((with_reducible refine vp_in_nI ?_ ?_) <;> first | omega | decide) | (simp (disch := omega) only [xl_n, xl_m, nI_dec, nI_sb, nI_add, pk_mul]; (with_reducible refine vp_in_nI ?_ ?_) <;> first | omega | decide))); (conv => whnf))
              | (refine And.intro (by first | with_reducible assumption | exact (show cL _ _ = _ from rfl) | decide) ?_; (conv => whnf))
              | ((with_reducible refine @And.intro (_ = _) _ ?_ ?_); (· rfl); (conv => whnf))
              | ((with_reducible refine @And.intro (@LE.le Nat _ _ _) _ ?_ ?_); (· (first | exact Nat.zero_le _ | exact Nat.le_of_ble_eq_true rfl | omega)); (conv => whnf))
              | ((with_reducible refine @And.intro (@LT.lt Nat _ _ _) _ ?_ ?_); (· omega); (conv => whnf))
              | ((with_reducible refine @And.intro (∃ _, _ = _) _ ?_ ?_); (· exact ⟨_, rfl⟩); (conv => whnf))
              | ((with_reducible refine @And.intro (_ ∨ _) _ ?_ ?_); (· (first | exact Or.inl rfl | exact Or.inr rfl | exact t_b01 _ | assumption)); (conv => whnf))
              | ((with_reducible refine @And.intro (¬ (_ = _)) _ ?_ ?_); (· first | assumption | (with_reducible assumption)); (conv => whnf))
              | (refine hX _ _ _ _ _ _ ?_; (conv => whnf); fail_if_success show False)
              | (rw [c_si]; (conv => whnf))
              | (refine ⟨_, rfl, ?_⟩; (conv => whnf))
              | (refine ⟨_, _, rfl, ?_⟩; (conv => whnf))
              | (refine ⟨_, _, _, rfl, ?_⟩; (conv => whnf))
              | (refine ⟨_, _, _, _, rfl, ?_⟩; (conv => whnf))
              | (refine ⟨k,L,rfl,hg,hk,?_⟩; (conv => whnf))
              | (refine ⟨z,L,rfl,hg,hzJ,?_⟩; (conv => whnf))
              | (rw [c_tl h5]; (conv => whnf))
              | (rw [c_t7 h5]; (conv => whnf))
              | (rw [c_tf h5 (by decide)]; (conv => whnf))
              | (rw [c_t0 h5]; (conv => whnf))
              | (rw [c_t1 h5]; (conv => whnf))
              | (rw [c_t2 h5]; (conv => whnf))
              | (rw [c_t3 h5]; (conv => whnf))
              | (rw [c_t4 h5]; (conv => whnf))
              | (rw [c_t5 h5]; (conv => whnf))
              | (refine And.intro ⟨_, c_tl h5⟩ ?_; (conv => whnf))
              | (refine And.intro (fun c => ?_) (fun c => ?_) <;> (first | (exact absurd c (by decide +kernel)) | (conv => whnf)))
              | fail)
            all_goals clear hX hG hQ
            all_goals simp (disch := omega) only [xl_n, xl_m, nI_dec, nI_sb, xl_0, xl_1, cW_i, Nat.add_zero, Nat.reduceAdd, Nat.reduceMul, t_bn0, t_bn1, Classical.not_not, t_lt, nI_add, nI_1, pk_mul, nI_clamp, c_si, nI_eq, nI_leI, nM_ne, nM_ne, xm_set, xm_lv0, xm_psh] at *
            all_goals (first | (exfalso; exact nM_ne (n := z) (by omega) (by assumption)) | (simp_all [t_o]; done) | (simpa [*, t_o] using nx))
    have q : m = 0 ∨ m = 1 := by omega
    have fin := loop 0 (Nat.zero_le _)
    clear loop
    rcases q with rfl | rfl
    all_goals
      repeat' (first
        | ((with_reducible refine @And.intro (vp_in _ _) _ ?_ ?_); (· (first | with_reducible assumption | ((with_reducible refine t_vin ?_); decide) | ((with_reducible refine vp_in_nI ?_ ?_) <;> first | omega | decide) | (simp (disch := omega) only [xl_n, xl_m, nI_dec, nI_sb, nI_add, pk_mul]; (with_reducible refine vp_in_nI ?_ ?_) <;> first | omega | decide))); (conv => whnf))
        | (refine And.intro (by first | with_reducible assumption | exact (show cL _ _ = _ from rfl) | decide) ?_; (conv => whnf))
        | ((with_reducible refine @And.intro (_ = _) _ ?_ ?_); (· rfl); (conv => whnf))
        | ((with_reducible refine @And.intro (@LE.le Nat _ _ _) _ ?_ ?_); (· (first | exact Nat.zero_le _ | exact Nat.le_of_ble_eq_true rfl | omega)); (conv => whnf))
        | ((with_reducible refine @And.intro (@LT.lt Nat _ _ _) _ ?_ ?_); (· omega); (conv => whnf))
        | ((with_reducible refine @And.intro (∃ _, _ = _) _ ?_ ?_); (· exact ⟨_, rfl⟩); (conv => whnf))
        | ((with_reducible refine @And.intro (_ ∨ _) _ ?_ ?_); (· (first | exact Or.inl rfl | exact Or.inr rfl | exact t_b01 _ | assumption)); (conv => whnf))
        | ((with_reducible refine @And.intro (¬ (_ = _)) _ ?_ ?_); (· first | assumption | (with_reducible assumption)); (conv => whnf))
        | (refine hX _ _ _ _ _ _ ?_; (conv => whnf); fail_if_success show False)
        | (rw [c_si]; (conv => whnf))
        | (refine ⟨_, rfl, ?_⟩; (conv => whnf))
        | (refine ⟨_, _, rfl, ?_⟩; (conv => whnf))
        | (refine ⟨_, _, _, rfl, ?_⟩; (conv => whnf))
        | (refine ⟨_, _, _, _, rfl, ?_⟩; (conv => whnf))
        | (refine ⟨true,rfl,?_⟩; (conv => whnf))
        | (refine ⟨false,rfl,?_⟩; (conv => whnf))
        | (refine And.intro (fun c => ?_) (fun c => ?_) <;> (first | (exact absurd c (by decide +kernel)) | (conv => whnf)))
        | fail)
      exact fin
  all_goals
    have n0 : ¬ a = 0 := fun q => by
      subst q
      exact absurd e1 (by decide +kernel)
    have n1 : ¬ a = Int32.ofInt 1 := fun q => by
      subst q
      exact absurd e1 (by decide +kernel)
    repeat' (first
      | ((with_reducible refine @And.intro (vp_in _ _) _ ?_ ?_); (· (first | with_reducible assumption | ((with_reducible refine t_vin ?_); decide) | ((with_reducible refine vp_in_nI ?_ ?_) <;> first | omega | decide) | (simp (disch := omega) only [xl_n, xl_m, nI_dec, nI_sb, nI_add, pk_mul]; (with_reducible refine vp_in_nI ?_ ?_) <;> first | omega | decide))); (conv => whnf))
      | (refine And.intro (by first | with_reducible assumption | exact (show cL _ _ = _ from rfl) | decide) ?_; (conv => whnf))
      | ((with_reducible refine @And.intro (_ = _) _ ?_ ?_); (· rfl); (conv => whnf))
      | ((with_reducible refine @And.intro (@LE.le Nat _ _ _) _ ?_ ?_); (· (first | exact Nat.zero_le _ | exact Nat.le_of_ble_eq_true rfl | omega)); (conv => whnf))
      | ((with_reducible refine @And.intro (@LT.lt Nat _ _ _) _ ?_ ?_); (· omega); (conv => whnf))
      | ((with_reducible refine @And.intro (∃ _, _ = _) _ ?_ ?_); (· exact ⟨_, rfl⟩); (conv => whnf))
      | ((with_reducible refine @And.intro (_ ∨ _) _ ?_ ?_); (· (first | exact Or.inl rfl | exact Or.inr rfl | exact t_b01 _ | assumption)); (conv => whnf))
      | ((with_reducible refine @And.intro (¬ (_ = _)) _ ?_ ?_); (· first | assumption | (with_reducible assumption)); (conv => whnf))
      | (refine hX _ _ _ _ _ _ ?_; (conv => whnf); fail_if_success show False)
      | (rw [c_si]; (conv => whnf))
      | (refine ⟨_, rfl, ?_⟩; (conv => whnf))
      | (refine ⟨_, _, rfl, ?_⟩; (conv => whnf))
      | (refine ⟨_, _, _, rfl, ?_⟩; (conv => whnf))
      | (refine ⟨_, _, _, _, rfl, ?_⟩; (conv => whnf))
      | (refine ⟨true,rfl,?_⟩; (conv => whnf))
      | (refine ⟨false,rfl,?_⟩; (conv => whnf))
      | (refine And.intro (fun c => ?_) (fun c => ?_) <;> (first | (exact absurd c (by decide +kernel)) | (exact absurd c (by assumption)) | (exact False.elim (c (by assumption))) | (conv => whnf)))
      | fail)
    intro x hx
    exact c_ref1 hQ hg e1 hx n1_0
theorem ct_X1_first : xm_Ct cI yX1_first (ws_ yX1_first cX1_first 4 (some .int)) 7 1 6 S_X1_first := xm_enter (rt := 0) (init := false) (by decide +kernel) rfl (fun h => by cases h) (Or.inl ⟨rfl, rfl⟩) (oX1_first) body_X1_first
theorem cv_X1_first {own : String} {cc : ByteArray} {fr pc idx : Nat} (hdg : decode cc pc = .ok (.invokevirtual idx, 3)) (hl : xm_ml own idx yX1_first) (hfr : 7 < fr) : xm_CallOK cI own cc fr pc (pc + 3) 2 1 6 (xm_this 0 S_X1_first) := xm_callV 0 cI_good (ct_X1_first) hdg hl q1881 q1882 q116 q1883 rfl rfl (by decide +kernel) hfr (by decide)
theorem c_rx (v : Int32) {m : Nat} (hm : 1 ≤ m) (h31 : m < 2 ^ 31) : (∃ n, n < m ∧ v = nI n ∧ t_in v (nI 0) (nI m - nI 1) = true) ∨ (t_in v (nI 0) (nI m - nI 1) = false ∧ v < 0) ∨ (t_in v (nI 0) (nI m - nI 1) = false ∧ ¬ v < 0 ∧ nI m ≤ v) := by
  obtain ⟨k, rfl⟩ : ∃ k, m = k + 1 := ⟨m - 1, by omega⟩
  rw [nI_sb]
  rcases c_rc v 0 k (A := 0) (B := nI k) rfl rfl (by omega) (by omega) with ⟨n, -, hn, rfl, e1⟩ | ⟨e1, h1⟩ | ⟨e1, h1, h2⟩
  · exact Or.inl ⟨n, by omega, rfl, e1⟩
  · exact Or.inr (Or.inl ⟨e1, h1⟩)
  · refine Or.inr (Or.inr ⟨e1, h1, ?_⟩)
    obtain ⟨n, hn, rfl⟩ := nI_of h1
    rw [t_lt, nI_leI (by omega) (by omega)] at h2
    exact (nI_leI (by omega) (by omega)).mpr (by omega)
theorem t_shl {n : Nat} (h : n ≤ 6) : nI 1 <<< (nI n &&& 31) = nI (2 ^ n) := by
  have : ∀ n, n < 7 → nI 1 <<< (nI n &&& 31) = nI (2 ^ n) := by decide +kernel
  exact this n (by omega)
abbrev bX1_fair_0 : List xE := [(.aload_n 0, 1, 0, 0, 0), (.iload_n 1, 2, 0, 0, 0), (.ifCond .lt 23, 5, 0, 25, 0), (.iload_n 1, 6, 0, 0, 0), (.iconst 1, 7, 0, 0, 0), (.aload_n 0, 8, 0, 0, 0), (.getfield 31, 11, 0, 0, 1), (.getfield 136, 14, 1, 10, 1), (.invokevirtual 140, 17, 0, 0, 9), (.ishl, 18, 0, 0, 0), (.if_icmp .ge 7, 21, 0, 25, 0), (.iconst 1, 22, 0, 0, 0), (.goto 4, 25, 0, 26, 0)]
abbrev bX1_fair_25 : List xE := [(.iconst 0, 26, 0, 0, 0)]
abbrev bX1_fair_26 : List xE := [(.invokevirtual 160, 29, 0, 1, 9), (.iconst 0, 30, 0, 0, 0), (.istore_n 2, 31, 0, 0, 0), (.iconst 0, 32, 0, 0, 0), (.istore_n 3, 33, 0, 0, 0)]
abbrev bX1_fair_33 : List xE := [(.iload_n 3, 34, 0, 0, 0), (.aload_n 0, 35, 0, 0, 0), (.getfield 31, 38, 0, 0, 1), (.getfield 133, 41, 1, 12, 0), (.if_icmp .ge 100, 44, 0, 141, 0), (.iconst 0, 45, 0, 0, 0), (.istore 4, 47, 0, 0, 0), (.iconst 0, 48, 0, 0, 0), (.istore 5, 50, 0, 0, 0)]
abbrev bX1_fair_50 : List xE := [(.iload 5, 52, 0, 0, 0), (.aload_n 0, 53, 0, 0, 0), (.getfield 31, 56, 0, 0, 1), (.getfield 136, 59, 1, 10, 1), (.invokevirtual 140, 62, 0, 0, 9), (.if_icmp .ge 54, 65, 0, 116, 0), (.iload 4, 67, 0, 0, 0), (.iload_n 1, 68, 0, 0, 0), (.iload 5, 70, 0, 0, 0), (.ishr, 71, 0, 0, 0), (.iconst 1, 72, 0, 0, 0), (.iand, 73, 0, 0, 0), (.iconst 1, 74, 0, 0, 0), (.if_icmp .ne 32, 77, 0, 106, 0), (.aload_n 0, 78, 0, 0, 0), (.iload 5, 80, 0, 0, 0), (.invokevirtual 265, 83, 0, 2, 9), (.getfield 272, 86, 11, 3, 0), (.iload_n 3, 87, 0, 0, 0), (.ishr, 88, 0, 0, 0), (.iconst 1, 89, 0, 0, 0), (.iand, 90, 0, 0, 0), (.iconst 1, 91, 0, 0, 0), (.if_icmp .ne 15, 94, 0, 106, 0), (.aload_n 0, 95, 0, 0, 0), (.iload 5, 97, 0, 0, 0), (.invokevirtual 265, 100, 0, 2, 9), (.getfield 269, 103, 11, 0, 0), (.goto 4, 106, 0, 107, 0)]
abbrev bX1_fair_106 : List xE := [(.iconst 0, 107, 0, 0, 0)]
abbrev bX1_fair_107 : List xE := [(.iadd, 108, 0, 0, 0), (.istore 4, 110, 0, 0, 0), (.iinc 5 1, 113, 0, 0, 0), (.goto (-63), 116, 0, 50, 0)]
abbrev bX1_fair_116 : List xE := [(.iload_n 2, 117, 0, 0, 0), (.iconst 0, 118, 0, 0, 0), (.iload 4, 120, 0, 0, 0), (.aload_n 0, 121, 0, 0, 0), (.getfield 58, 124, 0, 5, 1), (.getfield 198, 127, 7, 3, 1), (.iload_n 3, 128, 0, 0, 0), (.iaload, 129, 0, 0, 0), (.isub, 130, 0, 0, 0), (.invokestatic 232, 133, 0, 3, 9), (.iadd, 134, 0, 0, 0), (.istore_n 2, 135, 0, 0, 0), (.iinc 3 1, 138, 0, 0, 0), (.goto (-105), 141, 0, 33, 0)]
abbrev bX1_fair_141 : List xE := [(.iload_n 2, 142, 0, 0, 0), (.ireturn, 143, 0, 0, 0)]
abbrev kX1_fair : List (Nat × List xE) := [(0, bX1_fair_0), (25, bX1_fair_25), (26, bX1_fair_26), (33, bX1_fair_33), (50, bX1_fair_50), (106, bX1_fair_106), (107, bX1_fair_107), (116, bX1_fair_116), (141, bX1_fair_141)]
abbrev lX1_fair : List (Nat × Nat × Nat × xS) := [(1, 0, 0, xm_this 18 S_J2_size), (2, 1, 6, xm_this 0 S_X1_need), (2, 0, 0, xm_this 0 S_X1_actOf), (2, 0, 0, S_J12_max)]
theorem oX1_fair_0  : xm_okb cI RX1 cX1_fair false 7 lX1_fair bX1_fair_0 0 := xo_0 dX1_fair_0 rfl trivial (xo_0 dX1_fair_1 rfl trivial (xo_0 dX1_fair_2 rfl rfl (xo_0 dX1_fair_5 rfl trivial (xo_0 dX1_fair_6 rfl trivial (xo_0 dX1_fair_7 rfl trivial (xo_1 dX1_fair_8 rfl (xm_fg_of (Or.inl q716) (by decide) rfl (by decide) rfl rfl (Or.inl rfl) rfl) (xo_1 dX1_fair_11 rfl (xm_fg_of (Or.inr ⟨_, q552⟩) (by decide) rfl (by decide) rfl rfl (Or.inl rfl) rfl) (xo_c rfl (cv_J2_size dX1_fair_14 (Or.inl q810) (by decide)) (xo_0 dX1_fair_17 rfl trivial (xo_0 dX1_fair_18 rfl rfl (xo_0 dX1_fair_21 rfl trivial (xo_0 dX1_fair_22 rfl rfl (xo_n)))))))))))))
theorem oX1_fair_25  : xm_okb cI RX1 cX1_fair false 7 lX1_fair bX1_fair_25 25 := xo_0 dX1_fair_25 rfl trivial (xo_n)
theorem oX1_fair_26  : xm_okb cI RX1 cX1_fair false 7 lX1_fair bX1_fair_26 26 := xo_c rfl (cv_X1_need dX1_fair_26 (Or.inl q1030) (by decide)) (xo_0 dX1_fair_29 rfl trivial (xo_0 dX1_fair_30 rfl trivial (xo_0 dX1_fair_31 rfl trivial (xo_0 dX1_fair_32 rfl trivial (xo_n)))))
theorem oX1_fair_33  : xm_okb cI RX1 cX1_fair false 7 lX1_fair bX1_fair_33 33 := xo_0 dX1_fair_33 rfl trivial (xo_0 dX1_fair_34 rfl trivial (xo_1 dX1_fair_35 rfl (xm_fg_of (Or.inl q716) (by decide) rfl (by decide) rfl rfl (Or.inl rfl) rfl) (xo_0 dX1_fair_38 rfl (xm_fg_of (Or.inr ⟨_, q560⟩) (by decide) rfl (by decide) rfl rfl (Or.inl rfl) rfl) (xo_0 dX1_fair_41 rfl rfl (xo_0 dX1_fair_44 rfl trivial (xo_0 dX1_fair_45 rfl trivial (xo_0 dX1_fair_47 rfl trivial (xo_0 dX1_fair_48 rfl trivial (xo_n)))))))))
theorem oX1_fair_50  : xm_okb cI RX1 cX1_fair false 7 lX1_fair bX1_fair_50 50 := xo_0 dX1_fair_50 rfl trivial (xo_0 dX1_fair_52 rfl trivial (xo_1 dX1_fair_53 rfl (xm_fg_of (Or.inl q716) (by decide) rfl (by decide) rfl rfl (Or.inl rfl) rfl) (xo_1 dX1_fair_56 rfl (xm_fg_of (Or.inr ⟨_, q552⟩) (by decide) rfl (by decide) rfl rfl (Or.inl rfl) rfl) (xo_c rfl (cv_J2_size dX1_fair_59 (Or.inl q810) (by decide)) (xo_0 dX1_fair_62 rfl rfl (xo_0 dX1_fair_65 rfl trivial (xo_0 dX1_fair_67 rfl trivial (xo_0 dX1_fair_68 rfl trivial (xo_0 dX1_fair_70 rfl trivial (xo_0 dX1_fair_71 rfl trivial (xo_0 dX1_fair_72 rfl trivial (xo_0 dX1_fair_73 rfl trivial (xo_0 dX1_fair_74 rfl rfl (xo_0 dX1_fair_77 rfl trivial (xo_0 dX1_fair_78 rfl trivial (xo_c rfl (cv_X1_actOf dX1_fair_80 (Or.inl q822) (by decide)) (xo_0 dX1_fair_83 rfl (xm_fg_of (Or.inr ⟨_, q1310⟩) (by decide) rfl (by decide) rfl rfl (Or.inl rfl) rfl) (xo_0 dX1_fair_86 rfl trivial (xo_0 dX1_fair_87 rfl trivial (xo_0 dX1_fair_88 rfl trivial (xo_0 dX1_fair_89 rfl trivial (xo_0 dX1_fair_90 rfl trivial (xo_0 dX1_fair_91 rfl rfl (xo_0 dX1_fair_94 rfl trivial (xo_0 dX1_fair_95 rfl trivial (xo_c rfl (cv_X1_actOf dX1_fair_97 (Or.inl q822) (by decide)) (xo_0 dX1_fair_100 rfl (xm_fg_of (Or.inr ⟨_, q1302⟩) (by decide) rfl (by decide) rfl rfl (Or.inl rfl) rfl) (xo_0 dX1_fair_103 rfl rfl (xo_n)))))))))))))))))))))))))))))
theorem oX1_fair_106  : xm_okb cI RX1 cX1_fair false 7 lX1_fair bX1_fair_106 106 := xo_0 dX1_fair_106 rfl trivial (xo_n)
theorem oX1_fair_107  : xm_okb cI RX1 cX1_fair false 7 lX1_fair bX1_fair_107 107 := xo_0 dX1_fair_107 rfl trivial (xo_0 dX1_fair_108 rfl trivial (xo_0 dX1_fair_110 rfl trivial (xo_0 dX1_fair_113 rfl rfl (xo_n))))
theorem oX1_fair_116  : xm_okb cI RX1 cX1_fair false 7 lX1_fair bX1_fair_116 116 := xo_0 dX1_fair_116 rfl trivial (xo_0 dX1_fair_117 rfl trivial (xo_0 dX1_fair_118 rfl trivial (xo_0 dX1_fair_120 rfl trivial (xo_1 dX1_fair_121 rfl (xm_fg_of (Or.inl q724) (by decide) rfl (by decide) rfl rfl (Or.inl rfl) rfl) (xo_1 dX1_fair_124 rfl (xm_fg_of (Or.inr ⟨_, q669⟩) (by decide) rfl (by decide) rfl rfl (Or.inl rfl) rfl) (xo_0 dX1_fair_127 rfl trivial (xo_0 dX1_fair_128 rfl trivial (xo_0 dX1_fair_129 rfl trivial (xo_c rfl (xc_max dX1_fair_130 q1599 (by decide)) (xo_0 dX1_fair_133 rfl trivial (xo_0 dX1_fair_134 rfl trivial (xo_0 dX1_fair_135 rfl trivial (xo_0 dX1_fair_138 rfl rfl (xo_n))))))))))))))
theorem oX1_fair_141  : xm_okb cI RX1 cX1_fair false 7 lX1_fair bX1_fair_141 141 := xo_0 dX1_fair_141 rfl trivial (xo_0 dX1_fair_142 rfl trivial (xo_n))
theorem oX1_fair  : ∀ q ∈ kX1_fair, xm_okb cI RX1 cX1_fair false 7 lX1_fair q.2 q.1 := by
  intro q hq
  simp only [List.mem_cons, List.not_mem_nil, or_false] at hq
  rcases hq with rfl | rfl | rfl | rfl | rfl | rfl | rfl | rfl | rfl
  · exact oX1_fair_0  
  · exact oX1_fair_25  
  · exact oX1_fair_26  
  · exact oX1_fair_33  
  · exact oX1_fair_50  
  · exact oX1_fair_106  
  · exact oX1_fair_107  
  · exact oX1_fair_116  
  · exact oX1_fair_141  
def S_X1_fair : xS := cU fun as P Z I Q QX => ∃ x L, as = [.ref 0, .int x] ∧ c_good P Z I L ∧ c_P P Z L (cG P I L) Q QX (q_fair (cG P I L) x)
theorem body_X1_fair : xm_Body 6 0 1 6 [] lX1_fair kX1_fair S_X1_fair := by
  intro X avs w Q QX hX0 hS
  have hG := xm_go [] hX0
  have hX := xm_go [33,50] hX0
  clear hX0
  obtain ⟨P, Z, I, rfl, x, L, rfl, hg, hQ⟩ := hS
  have hok := hg.ok
  obtain ⟨hn, h9, hm, h8⟩ := id hok
  have h5 := c_5 (P := P)
  have hl := hg.ls
  obtain ⟨h6, hs, hc, hc2⟩ := id hl
  have e2 : Int32.ofInt 1 <<< (I 40 2 &&& 31) = nI (2 ^ P.1) := by
    rw [hs, xl_n.2.1]
    exact t_shl h6
  have h2p : 1 ≤ 2 ^ P.1 ∧ 2 ^ P.1 < 2 ^ 31 := ⟨Nat.one_le_two_pow, Nat.pow_lt_pow_right (by decide) (by omega)⟩
  rw [q_fair, show gacts (cG P I L) = P.1 from rfl, t_shl h6] at hQ
  refine ⟨rfl, ?_⟩
  rcases c_rx x h2p.1 h2p.2 with ⟨n, hn2, e0, e1⟩ | ⟨e1, h1⟩ | ⟨e1, h1, h2⟩
  · rw [e1, g_ck_t] at hQ
    have loop : ∀ k, k ≤ c_p I → ∀ o o', (o = none ∨ ∃ z, o = some (.int z)) → (o' = none ∨ ∃ z, o' = some (.int z)) → X 33 [some (.ref 0), some (.int x), some (.int (g_fair (cG P I L) x k)), some (.int (nI k)), o, o'] [] (cW P Z I) 0 0 := by
      refine t_for fun k h1 ih o o' ho ho' => ?_
      have inner : k < c_p I → ∀ j, j ≤ P.1 → X 50 [some (.ref 0), some (.int x), some (.int (g_fair (cG P I L) x k)), some (.int (nI k)), some (.int (g_lgh (cG P I L) x k j)), some (.int (nI j))] [] (cW P Z I) 0 0 := by
        intro hk
        refine t_for fun j j1 jh => ?_
        refine hG _ _ _ _ _ _ ?_
        (conv => whnf)
        repeat' (first
          | ((with_reducible refine @And.intro (vp_in _ _) _ ?_ ?_); (· (first | with_reducible assumption | ((with_reducible refine t_vin ?_); decide) | ((with_reducible refine vp_in_nI ?_ ?_) <;> first | omega | decide) | (simp (disch := omega) only [xl_n, xl_m, nI_dec, nI_sb, nI_add, pk_mul]; (with_reducible refine vp_in_nI ?_ ?_) <;> first | omega | decide))); (conv => whnf))
          | (refine And.intro (by first | with_reducible assumption | exact (show cL _ _ = _ from rfl) | decide) ?_; (conv => whnf))
          | ((with_reducible refine @And.intro (_ = _) _ ?_ ?_); (· rfl); (conv => whnf))
          | ((with_reducible refine @And.intro (@LE.le Nat _ _ _) _ ?_ ?_); (· (first | exact Nat.zero_le _ | exact Nat.le_of_ble_eq_true rfl | omega)); (conv => whnf))
          | ((with_reducible refine @And.intro (@LT.lt Nat _ _ _) _ ?_ ?_); (· omega); (conv => whnf))
          | ((with_reducible refine @And.intro (∃ _, _ = _) _ ?_ ?_); (· exact ⟨_, rfl⟩); (conv => whnf))
          | ((with_reducible refine @And.intro (_ ∨ _) _ ?_ ?_); (· (first | exact Or.inl rfl | exact Or.inr rfl | exact t_b01 _ | assumption)); (conv => whnf))
          | ((with_reducible refine @And.intro (¬ (_ = _)) _ ?_ ?_); (· first | assumption | (with_reducible assumption)); (conv => whnf))
          | (refine hX _ _ _ _ _ _ ?_; (conv => whnf); fail_if_success show False)
          | (rw [c_si]; (conv => whnf))
          | (refine ⟨_, rfl, ?_⟩; (conv => whnf))
          | (refine ⟨_, _, rfl, ?_⟩; (conv => whnf))
          | (refine ⟨_, _, _, rfl, ?_⟩; (conv => whnf))
          | (refine ⟨_, _, _, _, rfl, ?_⟩; (conv => whnf))
          | fail)
        refine And.intro (fun c => ?_) (fun c => ?_) <;> (conv => whnf)
        · have : j = P.1 := Nat.le_antisymm j1 (t_kge hs c (by omega) (by omega))
          subst this
          have nx := ih (k + 1) (by omega) (by omega) (some (.int (g_lgh (cG P I L) x k P.1))) (some (.int (nI P.1))) (Or.inr ⟨_, rfl⟩) (Or.inr ⟨_, rfl⟩)
          rw [g_fair, t_sum_s, show gs (gnow (cG P I L)) k = I (10 * 5 + 3) k from cA_gs (by omega), show gacts (cG P I L) = P.1 from rfl] at nx
          clear ih jh
          repeat' (first
            | ((with_reducible refine @And.intro (vp_in _ _) _ ?_ ?_); (· (first | with_reducible assumption | ((with_reducible refine t_vin ?_); decide) | ((with_reducible refine vp_in_nI ?_ ?_) <;> first | omega | decide) | (simp (disch := omega) only [xl_n, xl_m, nI_dec, nI_sb, nI_add, pk_mul]; (with_reducible refine vp_in_nI ?_ ?_) <;> first | omega | decide))); (conv => whnf))
            | (refine And.intro (by first | with_reducible assumption | exact (show cL _ _ = _ from rfl) | decide) ?_; (conv => whnf))
            | ((with_reducible refine @And.intro (_ = _) _ ?_ ?_); (· rfl); (conv => whnf))
            | ((with_reducible refine @And.intro (@LE.le Nat _ _ _) _ ?_ ?_); (· (first | exact Nat.zero_le _ | exact Nat.le_of_ble_eq_true rfl | omega)); (conv => whnf))
            | ((with_reducible refine @And.intro (@LT.lt Nat _ _ _) _ ?_ ?_); (· omega); (conv => whnf))
            | ((with_reducible refine @And.intro (∃ _, _ = _) _ ?_ ?_); (· exact ⟨_, rfl⟩); (conv => whnf))
            | ((with_reducible refine @And.intro (_ ∨ _) _ ?_ ?_); (· (first | exact Or.inl rfl | exact Or.inr rfl | exact t_b01 _ | assumption)); (conv => whnf))
            | ((with_reducible refine @And.intro (¬ (_ = _)) _ ?_ ?_); (· first | assumption | (with_reducible assumption)); (conv => whnf))
            | (refine hX _ _ _ _ _ _ ?_; (conv => whnf); fail_if_success show False)
            | (rw [c_si]; (conv => whnf))
            | (refine ⟨_, rfl, ?_⟩; (conv => whnf))
            | (refine ⟨_, _, rfl, ?_⟩; (conv => whnf))
            | (refine ⟨_, _, _, rfl, ?_⟩; (conv => whnf))
            | (refine ⟨_, _, _, _, rfl, ?_⟩; (conv => whnf))
            | (rw [c_tl h5]; (conv => whnf))
            | (rw [c_t7 h5]; (conv => whnf))
            | (rw [c_tf h5 (by decide)]; (conv => whnf))
            | (rw [c_t0 h5]; (conv => whnf))
            | (rw [c_t1 h5]; (conv => whnf))
            | (rw [c_t2 h5]; (conv => whnf))
            | (rw [c_t3 h5]; (conv => whnf))
            | (rw [c_t4 h5]; (conv => whnf))
            | (rw [c_t5 h5]; (conv => whnf))
            | (refine And.intro ⟨_, c_tl h5⟩ ?_; (conv => whnf))
            | (refine And.intro (fun c => ?_) (fun c => ?_) <;> (first | (exact absurd c (by decide +kernel)) | (conv => whnf)))
            | fail)
          clear hX hG hQ
          simp (disch := omega) only [xl_n, xl_m, nI_dec, nI_sb, xl_0, xl_1, cW_i, Nat.add_zero, Nat.reduceAdd, Nat.reduceMul, t_bn0, t_bn1, Classical.not_not, t_lt, nI_add, nI_1, pk_mul, nI_clamp, c_si, nI_eq, nI_leI, nM_ne, nM_ne, xm_set, xm_lv0, xm_psh] at *
          exact nx
        · have hj : j < P.1 := t_klt hs c (by omega)
          have nx := jh (j + 1) (by omega) (by omega)
          have eb : g_bits (cG P I L) j = I (80 + j) 3 := (hg.2.2.2.1 j hj).2.2.1.symm
          rw [g_lgh, t_sum_s, show glaugh (cG P I L) j = I (80 + j) 0 from if_pos hj, eb] at nx
          clear ih jh
          have el : g_lgh (cG P I L) x k j = t_sum j fun a => if (t_has x a && t_has (g_bits (cG P I L) a) k) = true then glaugh (cG P I L) a else nI 0 := rfl
          rw [← el] at nx
          clear hQ e0 e1
          cases f1 : t_has x j with
          | false =>
            have d3 : ¬ (x >>> (nI j &&& 31)) &&& Int32.ofInt 1 = Int32.ofInt 1 := of_decide_eq_false f1
            rw [f1, Bool.false_and, if_neg (by decide)] at nx
            repeat' (first
              | ((with_reducible refine @And.intro (vp_in _ _) _ ?_ ?_); (· (first | with_reducible assumption | ((with_reducible refine t_vin ?_); decide) | ((with_reducible refine vp_in_nI ?_ ?_) <;> first | omega | decide) | (simp (disch := omega) only [xl_n, xl_m, nI_dec, nI_sb, nI_add, pk_mul]; (with_reducible refine vp_in_nI ?_ ?_) <;> first | omega | decide))); (conv => whnf))
              | (refine And.intro (by first | with_reducible assumption | exact (show cL _ _ = _ from rfl) | decide) ?_; (conv => whnf))
              | ((with_reducible refine @And.intro (_ = _) _ ?_ ?_); (· rfl); (conv => whnf))
              | ((with_reducible refine @And.intro (@LE.le Nat _ _ _) _ ?_ ?_); (· (first | exact Nat.zero_le _ | exact Nat.le_of_ble_eq_true rfl | omega)); (conv => whnf))
              | ((with_reducible refine @And.intro (@LT.lt Nat _ _ _) _ ?_ ?_); (· omega); (conv => whnf))
              | ((with_reducible refine @And.intro (∃ _, _ = _) _ ?_ ?_); (· exact ⟨_, rfl⟩); (conv => whnf))
              | ((with_reducible refine @And.intro (_ ∨ _) _ ?_ ?_); (· (first | exact Or.inl rfl | exact Or.inr rfl | exact t_b01 _ | assumption)); (conv => whnf))
              | ((with_reducible refine @And.intro (¬ (_ = _)) _ ?_ ?_); (· first | assumption | (with_reducible assumption)); (conv => whnf))
              | (refine hX _ _ _ _ _ _ ?_; (conv => whnf); fail_if_success show False)
              | (rw [c_si]; (conv => whnf))
              | (refine ⟨_, rfl, ?_⟩; (conv => whnf))
              | (refine ⟨_, _, rfl, ?_⟩; (conv => whnf))
              | (refine ⟨_, _, _, rfl, ?_⟩; (conv => whnf))
              | (refine ⟨_, _, _, _, rfl, ?_⟩; (conv => whnf))
              | (refine ⟨j,rfl,hj,hl,?_⟩; (conv => whnf))
              | (rw [c_ac hj h6]; (conv => whnf))
              | (refine And.intro (fun c => ?_) (fun c => ?_) <;> (first | (exact absurd c (by decide +kernel)) | (exact absurd c (by assumption)) | (exact False.elim (c (by assumption))) | (conv => whnf)))
              | fail)
            clear hX hG
            simp (disch := omega) only [xl_n, xl_m, nI_dec, nI_sb, xl_0, xl_1, cW_i, Nat.add_zero, Nat.reduceAdd, Nat.reduceMul, t_bn0, t_bn1, Classical.not_not, t_lt, nI_add, nI_1, pk_mul, nI_clamp, c_si, nI_eq, nI_leI, nM_ne, nM_ne, xm_set, xm_lv0, xm_psh] at *
            exact nx
          | true =>
            have d3 : (x >>> (nI j &&& 31)) &&& Int32.ofInt 1 = Int32.ofInt 1 := of_decide_eq_true f1
            cases f2 : t_has (I (80 + j) 3) k with
            | false =>
              have d4 : ¬ (I (80 + j) 3 >>> (nI k &&& 31)) &&& Int32.ofInt 1 = Int32.ofInt 1 := of_decide_eq_false f2
              rw [f1, f2, Bool.and_false, if_neg (by decide)] at nx
              repeat' (first
                | ((with_reducible refine @And.intro (vp_in _ _) _ ?_ ?_); (· (first | with_reducible assumption | ((with_reducible refine t_vin ?_); decide) | ((with_reducible refine vp_in_nI ?_ ?_) <;> first | omega | decide) | (simp (disch := omega) only [xl_n, xl_m, nI_dec, nI_sb, nI_add, pk_mul]; (with_reducible refine vp_in_nI ?_ ?_) <;> first | omega | decide))); (conv => whnf))
                | (refine And.intro (by first | with_reducible assumption | exact (show cL _ _ = _ from rfl) | decide) ?_; (conv => whnf))
                | ((with_reducible refine @And.intro (_ = _) _ ?_ ?_); (· rfl); (conv => whnf))
                | ((with_reducible refine @And.intro (@LE.le Nat _ _ _) _ ?_ ?_); (· (first | exact Nat.zero_le _ | exact Nat.le_of_ble_eq_true rfl | omega)); (conv => whnf))
                | ((with_reducible refine @And.intro (@LT.lt Nat _ _ _) _ ?_ ?_); (· omega); (conv => whnf))
                | ((with_reducible refine @And.intro (∃ _, _ = _) _ ?_ ?_); (· exact ⟨_, rfl⟩); (conv => whnf))
                | ((with_reducible refine @And.intro (_ ∨ _) _ ?_ ?_); (· (first | exact Or.inl rfl | exact Or.inr rfl | exact t_b01 _ | assumption)); (conv => whnf))
                | ((with_reducible refine @And.intro (¬ (_ = _)) _ ?_ ?_); (· first | assumption | (with_reducible assumption)); (conv => whnf))
                | (refine hX _ _ _ _ _ _ ?_; (conv => whnf); fail_if_success show False)
                | (rw [c_si]; (conv => whnf))
                | (refine ⟨_, rfl, ?_⟩; (conv => whnf))
                | (refine ⟨_, _, rfl, ?_⟩; (conv => whnf))
                | (refine ⟨_, _, _, rfl, ?_⟩; (conv => whnf))
                | (refine ⟨_, _, _, _, rfl, ?_⟩; (conv => whnf))
                | (refine ⟨j,rfl,hj,hl,?_⟩; (conv => whnf))
                | (rw [c_ac hj h6]; (conv => whnf))
                | (refine And.intro (fun c => ?_) (fun c => ?_) <;> (first | (exact absurd c (by decide +kernel)) | (exact absurd c (by assumption)) | (exact False.elim (c (by assumption))) | (conv => whnf)))
                | fail)
              clear hX hG
              simp (disch := omega) only [xl_n, xl_m, nI_dec, nI_sb, xl_0, xl_1, cW_i, Nat.add_zero, Nat.reduceAdd, Nat.reduceMul, t_bn0, t_bn1, Classical.not_not, t_lt, nI_add, nI_1, pk_mul, nI_clamp, c_si, nI_eq, nI_leI, nM_ne, nM_ne, xm_set, xm_lv0, xm_psh] at *
              exact nx
            | true =>
              have d4 : (I (80 + j) 3 >>> (nI k &&& 31)) &&& Int32.ofInt 1 = Int32.ofInt 1 := of_decide_eq_true f2
              rw [f1, f2, Bool.and_self, if_pos rfl] at nx
              repeat' (first
                | ((with_reducible refine @And.intro (vp_in _ _) _ ?_ ?_); (· (first | with_reducible assumption | ((with_reducible refine t_vin ?_); decide) | ((with_reducible refine vp_in_nI ?_ ?_) <;> first | omega | decide) | (simp (disch := omega) only [xl_n, xl_m, nI_dec, nI_sb, nI_add, pk_mul]; (with_reducible refine vp_in_nI ?_ ?_) <;> first | omega | decide))); (conv => whnf))
                | (refine And.intro (by first | with_reducible assumption | exact (show cL _ _ = _ from rfl) | decide) ?_; (conv => whnf))
                | ((with_reducible refine @And.intro (_ = _) _ ?_ ?_); (· rfl); (conv => whnf))
                | ((with_reducible refine @And.intro (@LE.le Nat _ _ _) _ ?_ ?_); (· (first | exact Nat.zero_le _ | exact Nat.le_of_ble_eq_true rfl | omega)); (conv => whnf))
                | ((with_reducible refine @And.intro (@LT.lt Nat _ _ _) _ ?_ ?_); (· omega); (conv => whnf))
                | ((with_reducible refine @And.intro (∃ _, _ = _) _ ?_ ?_); (· exact ⟨_, rfl⟩); (conv => whnf))
                | ((with_reducible refine @And.intro (_ ∨ _) _ ?_ ?_); (· (first | exact Or.inl rfl | exact Or.inr rfl | exact t_b01 _ | assumption)); (conv => whnf))
                | ((with_reducible refine @And.intro (¬ (_ = _)) _ ?_ ?_); (· first | assumption | (with_reducible assumption)); (conv => whnf))
                | (refine hX _ _ _ _ _ _ ?_; (conv => whnf); fail_if_success show False)
                | (rw [c_si]; (conv => whnf))
                | (refine ⟨_, rfl, ?_⟩; (conv => whnf))
                | (refine ⟨_, _, rfl, ?_⟩; (conv => whnf))
                | (refine ⟨_, _, _, rfl, ?_⟩; (conv => whnf))
                | (refine ⟨_, _, _, _, rfl, ?_⟩; (conv => whnf))
                | (refine ⟨j,rfl,hj,hl,?_⟩; (conv => whnf))
                | (rw [c_ac hj h6]; (conv => whnf))
                | (refine And.intro (fun c => ?_) (fun c => ?_) <;> (first | (exact absurd c (by decide +kernel)) | (exact absurd c (by assumption)) | (exact False.elim (c (by assumption))) | (conv => whnf)))
                | fail)
              clear hX hG
              simp (disch := omega) only [xl_n, xl_m, nI_dec, nI_sb, xl_0, xl_1, cW_i, Nat.add_zero, Nat.reduceAdd, Nat.reduceMul, t_bn0, t_bn1, Classical.not_not, t_lt, nI_add, nI_1, pk_mul, nI_clamp, c_si, nI_eq, nI_leI, nM_ne, nM_ne, xm_set, xm_lv0, xm_psh] at *
              exact nx
      rcases ho with rfl | ⟨z, rfl⟩
      all_goals rcases ho' with rfl | ⟨z', rfl⟩
      all_goals
        refine hG _ _ _ _ _ _ ?_
        (conv => whnf)
        repeat' (first
          | ((with_reducible refine @And.intro (vp_in _ _) _ ?_ ?_); (· (first | with_reducible assumption | ((with_reducible refine t_vin ?_); decide) | ((with_reducible refine vp_in_nI ?_ ?_) <;> first | omega | decide) | (simp (disch := omega) only [xl_n, xl_m, nI_dec, nI_sb, nI_add, pk_mul]; (with_reducible refine vp_in_nI ?_ ?_) <;> first | omega | decide))); (conv => whnf))
          | (refine And.intro (by first | with_reducible assumption | exact (show cL _ _ = _ from rfl) | decide) ?_; (conv => whnf))
          | ((with_reducible refine @And.intro (_ = _) _ ?_ ?_); (· rfl); (conv => whnf))
          | ((with_reducible refine @And.intro (@LE.le Nat _ _ _) _ ?_ ?_); (· (first | exact Nat.zero_le _ | exact Nat.le_of_ble_eq_true rfl | omega)); (conv => whnf))
          | ((with_reducible refine @And.intro (@LT.lt Nat _ _ _) _ ?_ ?_); (· omega); (conv => whnf))
          | ((with_reducible refine @And.intro (∃ _, _ = _) _ ?_ ?_); (· exact ⟨_, rfl⟩); (conv => whnf))
          | ((with_reducible refine @And.intro (_ ∨ _) _ ?_ ?_); (· (first | exact Or.inl rfl | exact Or.inr rfl | exact t_b01 _ | assumption)); (conv => whnf))
          | ((with_reducible refine @And.intro (¬ (_ = _)) _ ?_ ?_); (· first | assumption | (with_reducible assumption)); (conv => whnf))
          | (refine hX _ _ _ _ _ _ ?_; (conv => whnf); fail_if_success show False)
          | (rw [c_si]; (conv => whnf))
          | (refine ⟨_, rfl, ?_⟩; (conv => whnf))
          | (refine ⟨_, _, rfl, ?_⟩; (conv => whnf))
          | (refine ⟨_, _, _, rfl, ?_⟩; (conv => whnf))
          | (refine ⟨_, _, _, _, rfl, ?_⟩; (conv => whnf))
          | fail)
        refine And.intro (fun c => ?_) (fun c => ?_) <;> (conv => whnf)
        · repeat' (first
            | ((with_reducible refine @And.intro (vp_in _ _) _ ?_ ?_); (· (first | with_reducible assumption | ((with_reducible refine t_vin ?_); decide) | ((with_reducible refine vp_in_nI ?_ ?_) <;> first | omega | decide) | (simp (disch := omega) only [xl_n, xl_m, nI_dec, nI_sb, nI_add, pk_mul]; (with_reducible refine vp_in_nI ?_ ?_) <;> first | omega | decide))); (conv => whnf))
            | (refine And.intro (by first | with_reducible assumption | exact (show cL _ _ = _ from rfl) | decide) ?_; (conv => whnf))
            | ((with_reducible refine @And.intro (_ = _) _ ?_ ?_); (· rfl); (conv => whnf))
            | ((with_reducible refine @And.intro (@LE.le Nat _ _ _) _ ?_ ?_); (· (first | exact Nat.zero_le _ | exact Nat.le_of_ble_eq_true rfl | omega)); (conv => whnf))
            | ((with_reducible refine @And.intro (@LT.lt Nat _ _ _) _ ?_ ?_); (· omega); (conv => whnf))
            | ((with_reducible refine @And.intro (∃ _, _ = _) _ ?_ ?_); (· exact ⟨_, rfl⟩); (conv => whnf))
            | ((with_reducible refine @And.intro (_ ∨ _) _ ?_ ?_); (· (first | exact Or.inl rfl | exact Or.inr rfl | exact t_b01 _ | assumption)); (conv => whnf))
            | ((with_reducible refine @And.intro (¬ (_ = _)) _ ?_ ?_); (· first | assumption | (with_reducible assumption)); (conv => whnf))
            | (refine hX _ _ _ _ _ _ ?_; (conv => whnf); fail_if_success show False)
            | (rw [c_si]; (conv => whnf))
            | (refine ⟨_, rfl, ?_⟩; (conv => whnf))
            | (refine ⟨_, _, rfl, ?_⟩; (conv => whnf))
            | (refine ⟨_, _, _, rfl, ?_⟩; (conv => whnf))
            | (refine ⟨_, _, _, _, rfl, ?_⟩; (conv => whnf))
            | (refine And.intro (fun c => ?_) (fun c => ?_) <;> (first | (exact absurd c (by decide +kernel)) | (conv => whnf)))
            | fail)
          have : k = c_p I := Nat.le_antisymm h1 (t_kge hm c (by omega) (by omega))
          subst this
          exact c_ask hQ hg c_sp.rf rfl
        · have hk : k < c_p I := t_klt hm c (by omega)
          have fin := inner hk 0 (Nat.zero_le _)
          clear inner ih
          repeat' (first
            | ((with_reducible refine @And.intro (vp_in _ _) _ ?_ ?_); (· (first | with_reducible assumption | ((with_reducible refine t_vin ?_); decide) | ((with_reducible refine vp_in_nI ?_ ?_) <;> first | omega | decide) | (simp (disch := omega) only [xl_n, xl_m, nI_dec, nI_sb, nI_add, pk_mul]; (with_reducible refine vp_in_nI ?_ ?_) <;> first | omega | decide))); (conv => whnf))
            | (refine And.intro (by first | with_reducible assumption | exact (show cL _ _ = _ from rfl) | decide) ?_; (conv => whnf))
            | ((with_reducible refine @And.intro (_ = _) _ ?_ ?_); (· rfl); (conv => whnf))
            | ((with_reducible refine @And.intro (@LE.le Nat _ _ _) _ ?_ ?_); (· (first | exact Nat.zero_le _ | exact Nat.le_of_ble_eq_true rfl | omega)); (conv => whnf))
            | ((with_reducible refine @And.intro (@LT.lt Nat _ _ _) _ ?_ ?_); (· omega); (conv => whnf))
            | ((with_reducible refine @And.intro (∃ _, _ = _) _ ?_ ?_); (· exact ⟨_, rfl⟩); (conv => whnf))
            | ((with_reducible refine @And.intro (_ ∨ _) _ ?_ ?_); (· (first | exact Or.inl rfl | exact Or.inr rfl | exact t_b01 _ | assumption)); (conv => whnf))
            | ((with_reducible refine @And.intro (¬ (_ = _)) _ ?_ ?_); (· first | assumption | (with_reducible assumption)); (conv => whnf))
            | (refine hX _ _ _ _ _ _ ?_; (conv => whnf); fail_if_success show False)
            | (rw [c_si]; (conv => whnf))
            | (refine ⟨_, rfl, ?_⟩; (conv => whnf))
            | (refine ⟨_, _, rfl, ?_⟩; (conv => whnf))
            | (refine ⟨_, _, _, rfl, ?_⟩; (conv => whnf))
            | (refine ⟨_, _, _, _, rfl, ?_⟩; (conv => whnf))
            | (refine And.intro (fun c => ?_) (fun c => ?_) <;> (first | (exact absurd c (by decide +kernel)) | (conv => whnf)))
            | fail)
          exact fin
    have d1 : ¬ x < 0 := by
      rw [e0]
      exact (nI_nn (by omega)).1
    have d2 : ¬ Int32.ofInt 1 <<< (I 40 2 &&& 31) ≤ x := by
      rw [e2, e0, nI_leI (by omega) (by omega)]
      omega
    have fin := loop 0 (Nat.zero_le _) none none (Or.inl rfl) (Or.inl rfl)
    clear loop
    repeat' (first
      | ((with_reducible refine @And.intro (vp_in _ _) _ ?_ ?_); (· (first | with_reducible assumption | ((with_reducible refine t_vin ?_); decide) | ((with_reducible refine vp_in_nI ?_ ?_) <;> first | omega | decide) | (simp (disch := omega) only [xl_n, xl_m, nI_dec, nI_sb, nI_add, pk_mul]; (with_reducible refine vp_in_nI ?_ ?_) <;> first | omega | decide))); (conv => whnf))
      | (refine And.intro (by first | with_reducible assumption | exact (show cL _ _ = _ from rfl) | decide) ?_; (conv => whnf))
      | ((with_reducible refine @And.intro (_ = _) _ ?_ ?_); (· rfl); (conv => whnf))
      | ((with_reducible refine @And.intro (@LE.le Nat _ _ _) _ ?_ ?_); (· (first | exact Nat.zero_le _ | exact Nat.le_of_ble_eq_true rfl | omega)); (conv => whnf))
      | ((with_reducible refine @And.intro (@LT.lt Nat _ _ _) _ ?_ ?_); (· omega); (conv => whnf))
      | ((with_reducible refine @And.intro (∃ _, _ = _) _ ?_ ?_); (· exact ⟨_, rfl⟩); (conv => whnf))
      | ((with_reducible refine @And.intro (_ ∨ _) _ ?_ ?_); (· (first | exact Or.inl rfl | exact Or.inr rfl | exact t_b01 _ | assumption)); (conv => whnf))
      | ((with_reducible refine @And.intro (¬ (_ = _)) _ ?_ ?_); (· first | assumption | (with_reducible assumption)); (conv => whnf))
      | (refine hX _ _ _ _ _ _ ?_; (conv => whnf); fail_if_success show False)
      | (rw [c_si]; (conv => whnf))
      | (refine ⟨_, rfl, ?_⟩; (conv => whnf))
      | (refine ⟨_, _, rfl, ?_⟩; (conv => whnf))
      | (refine ⟨_, _, _, rfl, ?_⟩; (conv => whnf))
      | (refine ⟨_, _, _, _, rfl, ?_⟩; (conv => whnf))
      | (refine ⟨true,rfl,?_⟩; (conv => whnf))
      | (refine ⟨false,rfl,?_⟩; (conv => whnf))
      | (refine And.intro (fun c => ?_) (fun c => ?_) <;> (first | (exact absurd c (by decide +kernel)) | (exact absurd c (by assumption)) | (exact False.elim (c (by assumption))) | (conv => whnf)))
      | fail)
    exact fin
  · repeat' (first
      | ((with_reducible refine @And.intro (vp_in _ _) _ ?_ ?_); (· (first | with_reducible assumption | ((with_reducible refine t_vin ?_); decide) | ((with_reducible refine vp_in_nI ?_ ?_) <;> first | omega | decide) | (simp (disch := omega) only [xl_n, xl_m, nI_dec, nI_sb, nI_add, pk_mul]; (with_reducible refine vp_in_nI ?_ ?_) <;> first | omega | decide))); (conv => whnf))
      | (refine And.intro (by first | with_reducible assumption | exact (show cL _ _ = _ from rfl) | decide) ?_; (conv => whnf))
      | ((with_reducible refine @And.intro (_ = _) _ ?_ ?_); (· rfl); (conv => whnf))
      | ((with_reducible refine @And.intro (@LE.le Nat _ _ _) _ ?_ ?_); (· (first | exact Nat.zero_le _ | exact Nat.le_of_ble_eq_true rfl | omega)); (conv => whnf))
      | ((with_reducible refine @And.intro (@LT.lt Nat _ _ _) _ ?_ ?_); (· omega); (conv => whnf))
      | ((with_reducible refine @And.intro (∃ _, _ = _) _ ?_ ?_); (· exact ⟨_, rfl⟩); (conv => whnf))
      | ((with_reducible refine @And.intro (_ ∨ _) _ ?_ ?_); (· (first | exact Or.inl rfl | exact Or.inr rfl | exact t_b01 _ | assumption)); (conv => whnf))
      | ((with_reducible refine @And.intro (¬ (_ = _)) _ ?_ ?_); (· first | assumption | (with_reducible assumption)); (conv => whnf))
      | (refine hX _ _ _ _ _ _ ?_; (conv => whnf); fail_if_success show False)
      | (rw [c_si]; (conv => whnf))
      | (refine ⟨_, rfl, ?_⟩; (conv => whnf))
      | (refine ⟨_, _, rfl, ?_⟩; (conv => whnf))
      | (refine ⟨_, _, _, rfl, ?_⟩; (conv => whnf))
      | (refine ⟨_, _, _, _, rfl, ?_⟩; (conv => whnf))
      | (refine ⟨true,rfl,?_⟩; (conv => whnf))
      | (refine ⟨false,rfl,?_⟩; (conv => whnf))
      | (refine And.intro (fun c => ?_) (fun c => ?_) <;> (first | (exact absurd c (by decide +kernel)) | (exact absurd c (by assumption)) | (exact False.elim (c (by assumption))) | (conv => whnf)))
      | fail)
    intro z hz
    exact c_ref1 hQ hg e1 hz n1_0
  · have d2 : Int32.ofInt 1 <<< (I 40 2 &&& 31) ≤ x := by
      rw [e2]
      exact h2
    repeat' (first
      | ((with_reducible refine @And.intro (vp_in _ _) _ ?_ ?_); (· (first | with_reducible assumption | ((with_reducible refine t_vin ?_); decide) | ((with_reducible refine vp_in_nI ?_ ?_) <;> first | omega | decide) | (simp (disch := omega) only [xl_n, xl_m, nI_dec, nI_sb, nI_add, pk_mul]; (with_reducible refine vp_in_nI ?_ ?_) <;> first | omega | decide))); (conv => whnf))
      | (refine And.intro (by first | with_reducible assumption | exact (show cL _ _ = _ from rfl) | decide) ?_; (conv => whnf))
      | ((with_reducible refine @And.intro (_ = _) _ ?_ ?_); (· rfl); (conv => whnf))
      | ((with_reducible refine @And.intro (@LE.le Nat _ _ _) _ ?_ ?_); (· (first | exact Nat.zero_le _ | exact Nat.le_of_ble_eq_true rfl | omega)); (conv => whnf))
      | ((with_reducible refine @And.intro (@LT.lt Nat _ _ _) _ ?_ ?_); (· omega); (conv => whnf))
      | ((with_reducible refine @And.intro (∃ _, _ = _) _ ?_ ?_); (· exact ⟨_, rfl⟩); (conv => whnf))
      | ((with_reducible refine @And.intro (_ ∨ _) _ ?_ ?_); (· (first | exact Or.inl rfl | exact Or.inr rfl | exact t_b01 _ | assumption)); (conv => whnf))
      | ((with_reducible refine @And.intro (¬ (_ = _)) _ ?_ ?_); (· first | assumption | (with_reducible assumption)); (conv => whnf))
      | (refine hX _ _ _ _ _ _ ?_; (conv => whnf); fail_if_success show False)
      | (rw [c_si]; (conv => whnf))
      | (refine ⟨_, rfl, ?_⟩; (conv => whnf))
      | (refine ⟨_, _, rfl, ?_⟩; (conv => whnf))
      | (refine ⟨_, _, _, rfl, ?_⟩; (conv => whnf))
      | (refine ⟨_, _, _, _, rfl, ?_⟩; (conv => whnf))
      | (refine ⟨true,rfl,?_⟩; (conv => whnf))
      | (refine ⟨false,rfl,?_⟩; (conv => whnf))
      | (refine And.intro (fun c => ?_) (fun c => ?_) <;> (first | (exact absurd c (by decide +kernel)) | (exact absurd c (by assumption)) | (exact False.elim (c (by assumption))) | (conv => whnf)))
      | fail)
    intro z hz
    exact c_ref1 hQ hg e1 hz n1_0
theorem ct_X1_fair : xm_Ct cI yX1_fair (ws_ yX1_fair cX1_fair 6 (some .int)) 7 1 6 S_X1_fair := xm_enter (rt := 0) (init := false) (by decide +kernel) rfl (fun h => by cases h) (Or.inl ⟨rfl, rfl⟩) (oX1_fair) body_X1_fair
theorem cv_X1_fair {own : String} {cc : ByteArray} {fr pc idx : Nat} (hdg : decode cc pc = .ok (.invokevirtual idx, 3)) (hl : xm_ml own idx yX1_fair) (hfr : 7 < fr) : xm_CallOK cI own cc fr pc (pc + 3) 2 1 6 (xm_this 0 S_X1_fair) := xm_callV 0 cI_good (ct_X1_fair) hdg hl q1791 q1792 q116 q1793 rfl rfl (by decide +kernel) hfr (by decide)

/-! ===== the reference: an act told ===== -/
set_option maxRecDepth 100000
theorem f_in_u {F : tI} {b k b' k' : Nat} {v : Int32} (hb : b ≠ 11 ∨ k = 3) (ha : ∀ a, a < f_a F → b ≠ 140 + a) (h : f_in (xm_u2 F b k v) b' k') : f_in F b' k' := by
  have o : ∀ j, j < 3 → xm_u2 F b k v 11 j = F 11 j := fun j hj => if_neg (by omega)
  have eh : f_h (xm_u2 F b k v) = f_h F := by unfold f_h; rw [o 0 (by decide)]
  have ep : f_p (xm_u2 F b k v) = f_p F := by unfold f_p; rw [o 1 (by decide)]
  have ea : f_a (xm_u2 F b k v) = f_a F := by unfold f_a; rw [o 2 (by decide)]
  unfold f_in at h ⊢
  rw [eh, ep, ea] at h
  rcases h with hk | hk | hk | hk | hk | hk | ⟨a, h1, h2, h3⟩ | hk
  · exact Or.inl hk
  · exact Or.inr (Or.inl hk)
  · exact Or.inr (Or.inr (Or.inl hk))
  · exact Or.inr (Or.inr (Or.inr (Or.inl hk)))
  · exact Or.inr (Or.inr (Or.inr (Or.inr (Or.inl hk))))
  · exact Or.inr (Or.inr (Or.inr (Or.inr (Or.inr (Or.inl hk)))))
  · refine Or.inr (Or.inr (Or.inr (Or.inr (Or.inr (Or.inr (Or.inl ⟨a, h1, h2, ?_⟩))))))
    have : f_m (xm_u2 F b k v) a = f_m F a := by
      unfold f_m
      rw [show xm_u2 F b k v (140 + a) 1 = F (140 + a) 1 from if_neg (fun z => ha a h2 z.1.symm)]
    rw [← this]
    exact h3
  · exact Or.inr (Or.inr (Or.inr (Or.inr (Or.inr (Or.inr (Or.inr hk))))))
theorem t_rea.ua {I F : tI} {a k : Nat} {v : Int32} (h : t_rea I F) (ha : f_a F ≤ a) : t_rea (xm_u2 I (140 + a) k v) (xm_u2 F (140 + a) k v) := fun b' k' hk => by
  by_cases q : b' = 140 + a ∧ k' = k
  · unfold xm_u2
    rw [if_pos q, if_pos q]
  · have e : ∀ X : tI, xm_u2 X (140 + a) k v b' k' = X b' k' := fun X => if_neg q
    rw [e, e]
    exact h b' k' (f_in_u (Or.inl (by omega)) (fun a' h => by omega) hk)
theorem f_a_u {F : tI} {b k : Nat} {v : Int32} (hb : b ≠ 11) : f_a (xm_u2 F b k v) = f_a F := by
  unfold f_a
  rw [xm_u2_ne (fun q => hb q.symm)]
def p_actF (f : Nat → Int32) (n r : Nat) : Nat → tI → Nat → Int32 → Nat → pR tI
  | 0, _, _, _, _ => .inl (nI 3, 0)
  | u + 1, F, m, bits, k =>
    if m ≠ 0 ∧ p_ls f n (p_bl f n k) = p_wi 5 14 4 0 0 0 0 then .inr (F, p_le f n (p_bl f n k)) else
    p_bd (p_number f n (nI 0) (F 11 1 - nI 1) k) fun v k' =>
      if t_has bits v.toNatClampNeg = true then .inl (nI 2, p_bl f n k) else if m = 6 then .inl (nI 3, p_bl f n k) else
      p_actF f n r u (xm_u2 (xm_u2 F r (2 + m) v) r 1 (nI (m + 1))) (m + 1) (bits ||| t_bit v.toNatClampNeg) k'
def p_act (f : Nat → Int32) (n : Nat) (F : tI) (r k : Nat) : pR tI := p_bd (p_number f n (nI 0) (nI 9) k) fun v k => p_actF f n r 7 (xm_u2 (xm_u2 F r 0 v) r 1 (nI 0)) 0 (nI 0) k
abbrev bX11_actHere_0 : List xE := [(.aload_n 1, 1, 0, 0, 0), (.iconst 0, 2, 0, 0, 0), (.aload_n 0, 3, 0, 0, 0), (.iconst 0, 4, 0, 0, 0), (.bipush 9, 6, 0, 0, 0), (.invokevirtual 202, 9, 0, 0, 9), (.iastore, 10, 0, 0, 0), (.aload_n 1, 11, 0, 0, 0), (.iconst 1, 12, 0, 0, 0), (.iconst 0, 13, 0, 0, 0), (.iastore, 14, 0, 0, 0), (.iconst 0, 15, 0, 0, 0), (.istore_n 2, 16, 0, 0, 0)]
abbrev bX11_actHere_16 : List xE := [(.aload_n 0, 17, 0, 0, 0), (.getfield 150, 20, 8, 5, 0), (.ifCond .ne 112, 23, 0, 132, 0), (.aload_n 1, 24, 0, 0, 0), (.iconst 1, 25, 0, 0, 0), (.iaload, 26, 0, 0, 0), (.ifCond .eq 18, 29, 0, 44, 0), (.aload_n 0, 30, 0, 0, 0), (.iconst 5, 31, 0, 0, 0), (.bipush 14, 33, 0, 0, 0), (.iconst 4, 34, 0, 0, 0), (.iconst 0, 35, 0, 0, 0), (.iconst 0, 36, 0, 0, 0), (.iconst 0, 37, 0, 0, 0), (.iconst 0, 38, 0, 0, 0), (.invokevirtual 189, 41, 0, 1, 9), (.ifCond .ne 91, 44, 0, 132, 0)]
abbrev bX11_actHere_44 : List xE := [(.aload_n 0, 45, 0, 0, 0), (.invokevirtual 236, 48, 0, 2, 9), (.istore_n 3, 49, 0, 0, 0), (.aload_n 0, 50, 0, 0, 0), (.invokevirtual 239, 53, 0, 3, 9), (.istore 4, 55, 0, 0, 0), (.aload_n 0, 56, 0, 0, 0), (.getfield 150, 59, 8, 5, 0), (.ifCond .ne 18, 62, 0, 77, 0), (.iload_n 2, 63, 0, 0, 0), (.iload 4, 65, 0, 0, 0), (.invokestatic 242, 68, 0, 4, 9), (.ifCond .eq 9, 71, 0, 77, 0), (.aload_n 0, 72, 0, 0, 0), (.iconst 2, 73, 0, 0, 0), (.iload_n 3, 74, 0, 0, 0), (.invokevirtual 163, 77, 0, 5, 9)]
abbrev bX11_actHere_77 : List xE := [(.aload_n 0, 78, 0, 0, 0), (.getfield 150, 81, 8, 5, 0), (.ifCond .ne 17, 84, 0, 98, 0), (.aload_n 1, 85, 0, 0, 0), (.iconst 1, 86, 0, 0, 0), (.iaload, 87, 0, 0, 0), (.bipush 6, 89, 0, 0, 0), (.if_icmp .ne 9, 92, 0, 98, 0), (.aload_n 0, 93, 0, 0, 0), (.iconst 3, 94, 0, 0, 0), (.iload_n 3, 95, 0, 0, 0), (.invokevirtual 163, 98, 0, 5, 9)]
abbrev bX11_actHere_98 : List xE := [(.aload_n 0, 99, 0, 0, 0), (.getfield 150, 102, 8, 5, 0), (.ifCond .eq 4, 105, 0, 106, 0), (.return_, 106, 0, 0, 0)]
abbrev bX11_actHere_106 : List xE := [(.iload_n 2, 107, 0, 0, 0), (.iconst 1, 108, 0, 0, 0), (.iload 4, 110, 0, 0, 0), (.ishl, 111, 0, 0, 0), (.ior, 112, 0, 0, 0), (.istore_n 2, 113, 0, 0, 0), (.aload_n 1, 114, 0, 0, 0), (.iconst 2, 115, 0, 0, 0), (.aload_n 1, 116, 0, 0, 0), (.iconst 1, 117, 0, 0, 0), (.iaload, 118, 0, 0, 0), (.iadd, 119, 0, 0, 0), (.iload 4, 121, 0, 0, 0), (.iastore, 122, 0, 0, 0), (.aload_n 1, 123, 0, 0, 0), (.iconst 1, 124, 0, 0, 0), (.dup2, 125, 0, 0, 0), (.iaload, 126, 0, 0, 0), (.iconst 1, 127, 0, 0, 0), (.iadd, 128, 0, 0, 0), (.iastore, 129, 0, 0, 0), (.goto (-113), 132, 0, 16, 0)]
abbrev bX11_actHere_132 : List xE := [(.aload_n 0, 133, 0, 0, 0), (.getfield 150, 136, 8, 5, 0), (.ifCond .ne 7, 139, 0, 143, 0), (.aload_n 0, 140, 0, 0, 0), (.invokevirtual 193, 143, 0, 6, 9)]
abbrev bX11_actHere_143 : List xE := [(.return_, 144, 0, 0, 0)]
abbrev kX11_actHere : List (Nat × List xE) := [(0, bX11_actHere_0), (16, bX11_actHere_16), (44, bX11_actHere_44), (77, bX11_actHere_77), (98, bX11_actHere_98), (106, bX11_actHere_106), (132, bX11_actHere_132), (143, bX11_actHere_143)]
abbrev lX11_actHere : List (Nat × Nat × Nat × xS) := [(3, 0, 0, xm_this 8 S_X11_number), (8, 0, 0, xm_this 8 S_X11_isWord), (1, 0, 0, xm_this 8 S_X11_placeHere), (1, 0, 0, xm_this 8 S_X11_puppetHere), (2, 0, 0, S_X11_has), (3, 0, 0, xm_this 8 S_X11_wrong), (1, 0, 0, xm_this 8 S_X11_skipWord)]
theorem oX11_actHere_0 {Iv : xI} (hI : xm_good Iv)  : xm_okb Iv RX11 cX11_actHere false 5 lX11_actHere bX11_actHere_0 0 := xo_0 dX11_actHere_0 rfl trivial (xo_0 dX11_actHere_1 rfl trivial (xo_0 dX11_actHere_2 rfl trivial (xo_0 dX11_actHere_3 rfl trivial (xo_0 dX11_actHere_4 rfl (xo_bipush (by decide +kernel)) (xo_c rfl (cv_X11_number hI dX11_actHere_6 (Or.inl q2190) (by decide)) (xo_0 dX11_actHere_9 rfl trivial (xo_0 dX11_actHere_10 rfl trivial (xo_0 dX11_actHere_11 rfl trivial (xo_0 dX11_actHere_12 rfl trivial (xo_0 dX11_actHere_13 rfl trivial (xo_0 dX11_actHere_14 rfl trivial (xo_0 dX11_actHere_15 rfl trivial (xo_n)))))))))))))
theorem oX11_actHere_16 {Iv : xI} (hI : xm_good Iv)  : xm_okb Iv RX11 cX11_actHere false 5 lX11_actHere bX11_actHere_16 16 := xo_0 dX11_actHere_16 rfl trivial (xo_0 dX11_actHere_17 rfl (xm_fg_of (Or.inl q1960) (by decide) rfl (by decide) rfl rfl (Or.inl rfl) rfl) (xo_0 dX11_actHere_20 rfl rfl (xo_0 dX11_actHere_23 rfl trivial (xo_0 dX11_actHere_24 rfl trivial (xo_0 dX11_actHere_25 rfl trivial (xo_0 dX11_actHere_26 rfl rfl (xo_0 dX11_actHere_29 rfl trivial (xo_0 dX11_actHere_30 rfl trivial (xo_0 dX11_actHere_31 rfl (xo_bipush (by decide +kernel)) (xo_0 dX11_actHere_33 rfl trivial (xo_0 dX11_actHere_34 rfl trivial (xo_0 dX11_actHere_35 rfl trivial (xo_0 dX11_actHere_36 rfl trivial (xo_0 dX11_actHere_37 rfl trivial (xo_c rfl (cv_X11_isWord hI dX11_actHere_38 (Or.inl q2161) (by decide)) (xo_0 dX11_actHere_41 rfl rfl (xo_n)))))))))))))))))
theorem oX11_actHere_44 {Iv : xI} (hI : xm_good Iv)  : xm_okb Iv RX11 cX11_actHere false 5 lX11_actHere bX11_actHere_44 44 := xo_0 dX11_actHere_44 rfl trivial (xo_c rfl (cv_X11_placeHere hI dX11_actHere_45 (Or.inl q2198) (by decide)) (xo_0 dX11_actHere_48 rfl trivial (xo_0 dX11_actHere_49 rfl trivial (xo_c rfl (cv_X11_puppetHere hI dX11_actHere_50 (Or.inl q2206) (by decide)) (xo_0 dX11_actHere_53 rfl trivial (xo_0 dX11_actHere_55 rfl trivial (xo_0 dX11_actHere_56 rfl (xm_fg_of (Or.inl q1960) (by decide) rfl (by decide) rfl rfl (Or.inl rfl) rfl) (xo_0 dX11_actHere_59 rfl rfl (xo_0 dX11_actHere_62 rfl trivial (xo_0 dX11_actHere_63 rfl trivial (xo_c rfl (cv_X11_has hI dX11_actHere_65 (Or.inl q1945) (by decide)) (xo_0 dX11_actHere_68 rfl rfl (xo_0 dX11_actHere_71 rfl trivial (xo_0 dX11_actHere_72 rfl trivial (xo_0 dX11_actHere_73 rfl trivial (xo_c rfl (cv_X11_wrong hI dX11_actHere_74 (Or.inl q2178) (by decide)) (xo_n)))))))))))))))))
theorem oX11_actHere_77 {Iv : xI} (hI : xm_good Iv)  : xm_okb Iv RX11 cX11_actHere false 5 lX11_actHere bX11_actHere_77 77 := xo_0 dX11_actHere_77 rfl trivial (xo_0 dX11_actHere_78 rfl (xm_fg_of (Or.inl q1960) (by decide) rfl (by decide) rfl rfl (Or.inl rfl) rfl) (xo_0 dX11_actHere_81 rfl rfl (xo_0 dX11_actHere_84 rfl trivial (xo_0 dX11_actHere_85 rfl trivial (xo_0 dX11_actHere_86 rfl trivial (xo_0 dX11_actHere_87 rfl (xo_bipush (by decide +kernel)) (xo_0 dX11_actHere_89 rfl rfl (xo_0 dX11_actHere_92 rfl trivial (xo_0 dX11_actHere_93 rfl trivial (xo_0 dX11_actHere_94 rfl trivial (xo_c rfl (cv_X11_wrong hI dX11_actHere_95 (Or.inl q2178) (by decide)) (xo_n))))))))))))
theorem oX11_actHere_98 {Iv : xI} (hI : xm_good Iv)  : xm_okb Iv RX11 cX11_actHere false 5 lX11_actHere bX11_actHere_98 98 := xo_0 dX11_actHere_98 rfl trivial (xo_0 dX11_actHere_99 rfl (xm_fg_of (Or.inl q1960) (by decide) rfl (by decide) rfl rfl (Or.inl rfl) rfl) (xo_0 dX11_actHere_102 rfl rfl (xo_0 dX11_actHere_105 rfl trivial (xo_n))))
theorem oX11_actHere_106 {Iv : xI} (hI : xm_good Iv)  : xm_okb Iv RX11 cX11_actHere false 5 lX11_actHere bX11_actHere_106 106 := xo_0 dX11_actHere_106 rfl trivial (xo_0 dX11_actHere_107 rfl trivial (xo_0 dX11_actHere_108 rfl trivial (xo_0 dX11_actHere_110 rfl trivial (xo_0 dX11_actHere_111 rfl trivial (xo_0 dX11_actHere_112 rfl trivial (xo_0 dX11_actHere_113 rfl trivial (xo_0 dX11_actHere_114 rfl trivial (xo_0 dX11_actHere_115 rfl trivial (xo_0 dX11_actHere_116 rfl trivial (xo_0 dX11_actHere_117 rfl trivial (xo_0 dX11_actHere_118 rfl trivial (xo_0 dX11_actHere_119 rfl trivial (xo_0 dX11_actHere_121 rfl trivial (xo_0 dX11_actHere_122 rfl trivial (xo_0 dX11_actHere_123 rfl trivial (xo_0 dX11_actHere_124 rfl trivial (xo_0 dX11_actHere_125 rfl trivial (xo_0 dX11_actHere_126 rfl trivial (xo_0 dX11_actHere_127 rfl trivial (xo_0 dX11_actHere_128 rfl trivial (xo_0 dX11_actHere_129 rfl rfl (xo_n))))))))))))))))))))))
theorem oX11_actHere_132 {Iv : xI} (hI : xm_good Iv)  : xm_okb Iv RX11 cX11_actHere false 5 lX11_actHere bX11_actHere_132 132 := xo_0 dX11_actHere_132 rfl trivial (xo_0 dX11_actHere_133 rfl (xm_fg_of (Or.inl q1960) (by decide) rfl (by decide) rfl rfl (Or.inl rfl) rfl) (xo_0 dX11_actHere_136 rfl rfl (xo_0 dX11_actHere_139 rfl trivial (xo_c rfl (cv_X11_skipWord hI dX11_actHere_140 (Or.inl q2182) (by decide)) (xo_n)))))
theorem oX11_actHere_143 {Iv : xI} (hI : xm_good Iv)  : xm_okb Iv RX11 cX11_actHere false 5 lX11_actHere bX11_actHere_143 143 := xo_0 dX11_actHere_143 rfl trivial (xo_n)
theorem oX11_actHere {Iv : xI} (hI : xm_good Iv)  : ∀ q ∈ kX11_actHere, xm_okb Iv RX11 cX11_actHere false 5 lX11_actHere q.2 q.1 := by
  intro q hq
  simp only [List.mem_cons, List.not_mem_nil, or_false] at hq
  rcases hq with rfl | rfl | rfl | rfl | rfl | rfl | rfl | rfl
  · exact oX11_actHere_0 hI  
  · exact oX11_actHere_16 hI  
  · exact oX11_actHere_44 hI  
  · exact oX11_actHere_77 hI  
  · exact oX11_actHere_98 hI  
  · exact oX11_actHere_106 hI  
  · exact oX11_actHere_132 hI  
  · exact oX11_actHere_143 hI  
def S_X11_actHere : xS := tU fun as I Q => ∃ a : Nat, as = [.ref 0, .ref (140 + a)] ∧ a < 6 ∧ ∃ f n, t_tx I f n ∧ ∃ k, t_ps I n (.inr k) ∧ ∃ F, t_fok F ∧ f_a F = a ∧ t_rea I F ∧ ∀ J, t_rf I J → t_out J n (p_act f n F (140 + a) k) → (∀ F' k', p_act f n F (140 + a) k = .inr (F', k') → ∃ m, m ≤ 6 ∧ F' (140 + a) 1 = nI m ∧ ∀ i, i < 2 + m → J (140 + a) i = F' (140 + a) i) → Q none J
theorem body_X11_actHere : xm_Body 5 2 0 0 [] lX11_actHere kX11_actHere S_X11_actHere := by
  intro X avs w Q QX hX0 hS
  have hG := xm_go [] hX0
  have hX := xm_go [16, 44] hX0
  clear hX0
  obtain ⟨I, rfl, a, rfl, ha6, f, n, ht, k, hp, F, hF, hFa, hr, hQ⟩ := hS
  obtain ⟨-, -, hk⟩ := t_ps_n hp
  obtain ⟨R, hR⟩ : ∃ R, R = p_act f n F (140 + a) k := ⟨_, rfl⟩
  rw [← hR] at hQ
  unfold p_act at hR
  have hrr : t_rr (140 + a) := by unfold t_rr; omega
  have hb0 : 140 + a ≠ 0 := by omega
  have hb9 : 140 + a ≠ 9 := by omega
  have s44 : ∀ u m, m + u = 6 → (∀ G bits k M o3 o4, (o3 = none ∨ ∃ z, o3 = some (.int z)) → (o4 = none ∨ ∃ z, o4 = some (.int z)) → u ≠ 0 → t_rf I M → t_ps M n (.inr k) → t_rea M G → t_fok G → f_a G = a → G (140 + a) 1 = nI (m + 1) → (∀ i, i < 2 + (m + 1) → M (140 + a) i = G (140 + a) i) → p_actF f n (140 + a) u G (m + 1) bits k = R → X 16 [some (.ref 0), some (.ref (140 + a)), some (.int bits), o3, o4] [] (tW M) 0 0) →
      ∀ G bits k kk M o3 o4, (o3 = none ∨ ∃ z, o3 = some (.int z)) → (o4 = none ∨ ∃ z, o4 = some (.int z)) → t_rf I M → k ≤ n → t_ps M n (.inr kk) → p_bl f n kk = p_bl f n k → t_rea M G → t_fok G → f_a G = a → G (140 + a) 1 = nI m → (∀ i, i < 2 + m → M (140 + a) i = G (140 + a) i) →
      ((p_bd (p_number f n (nI 0) (G 11 1 - nI 1) k) fun v k' =>
        if t_has bits v.toNatClampNeg = true then .inl (nI 2, p_bl f n k) else if m = 6 then .inl (nI 3, p_bl f n k) else
        p_actF f n (140 + a) u (xm_u2 (xm_u2 G (140 + a) (2 + m) v) (140 + a) 1 (nI (m + 1))) (m + 1) (bits ||| t_bit v.toNatClampNeg) k') = R) →
      X 44 [some (.ref 0), some (.ref (140 + a)), some (.int bits), o3, o4] [] (tW M) 0 0 := by
    intro u m hmu ih G bits k kk M o3 o4 ho3 ho4 hM hkn hp heb hr hF hFa hG1 hrow hR
    obtain ⟨-, h4, hkk⟩ := t_ps_n hp
    have h5 := t_ps_0 hp
    have htM := hM.tx ht
    have hpB := t_ps_bl (f := f) hp
    have hWB : t_pf M (xm_u2 M 0 4 (nI (p_bl f n kk))) := t_pf.u (Or.inl rfl)
    have htB := hWB.tx htM
    rw [heb] at hpB htB hWB
    refine hG _ _ _ _ _ _ ?_
    (conv => whnf)
    repeat' (first
      | ((with_reducible refine @And.intro (vp_in _ _) _ ?_ ?_); (· (first | with_reducible assumption | ((with_reducible refine t_vin ?_); decide) | ((with_reducible refine vp_in_nI ?_ ?_) <;> first | omega | decide) | (simp (disch := omega) only [xl_n, xl_m, nI_dec, nI_sb, nI_add, pk_mul]; (with_reducible refine vp_in_nI ?_ ?_) <;> first | omega | decide))); (conv => whnf))
      | (refine And.intro (by first | with_reducible assumption | exact (show tL _ = _ from rfl) | decide) ?_; (conv => whnf))
      | ((with_reducible refine @And.intro (_ = _) _ ?_ ?_); (· rfl); (conv => whnf))
      | ((with_reducible refine @And.intro (@LE.le Nat _ _ _) _ ?_ ?_); (· (first | exact Nat.zero_le _ | exact Nat.le_of_ble_eq_true rfl | omega)); (conv => whnf))
      | ((with_reducible refine @And.intro (@LT.lt Nat _ _ _) _ ?_ ?_); (· omega); (conv => whnf))
      | ((with_reducible refine @And.intro (∃ _, _ = _) _ ?_ ?_); (· exact ⟨_, rfl⟩); (conv => whnf))
      | ((with_reducible refine @And.intro (_ ∨ _) _ ?_ ?_); (· (first | exact Or.inl rfl | exact Or.inr rfl | exact t_b01 _ | assumption)); (conv => whnf))
      | ((with_reducible refine @And.intro (¬ (_ = _)) _ ?_ ?_); (· first | assumption | (with_reducible assumption)); (conv => whnf))
      | (refine hX _ _ _ _ _ _ ?_; (conv => whnf); fail_if_success show False)
      | (rw [t_si]; (conv => whnf))
      | (refine ⟨_, rfl, ?_⟩; (conv => whnf))
      | (refine ⟨_, _, rfl, ?_⟩; (conv => whnf))
      | (refine ⟨_, _, _, rfl, ?_⟩; (conv => whnf))
      | (refine ⟨_, _, _, _, rfl, ?_⟩; (conv => whnf))
      | (rw [heb]; (conv => whnf))
      | (refine ⟨_, _, (by with_reducible assumption), ?_⟩; (conv => whnf))
      | (refine ⟨_, (by first | with_reducible assumption | exact rfl), ?_⟩; (conv => whnf))
      | (refine And.intro (fun c => ?_) (fun c => ?_) <;> (first | (exact absurd c (by decide +kernel)) | (exact absurd c (by assumption)) | (exact False.elim (c (by assumption))) | (conv => whnf)))
      | fail)
    intro J hJ hps2
    have eg : p_go (.inr (p_bl f n k)) (p_number f n (nI 0) (G 11 1 - nI 1)) = p_number f n (nI 0) (G 11 1 - nI 1) k := p_number_bl hkn
    have ep : xm_u2 M 0 4 (nI (p_bl f n k)) 11 1 = G 11 1 := hr.p
    rw [ep, eg] at hps2
    rw [ep, eg]
    clear ep eg
    have hrJ := hJ.d (hWB.d hr)
    have hrow : ∀ i, i < 2 + m → J (140 + a) i = G (140 + a) i := fun i hi => (congrFun ((hWB.tr hJ).1 _ hb0) i).trans (hrow i hi)
    have hJ := hM.tr (hWB.r.tr hJ.r)
    clear hpB hWB htB h5 h4 hp hr hM heb hkk htM
    (conv => whnf)
    cases hr1 : p_number f n (nI 0) (G 11 1 - nI 1) k with
    | inl e =>
      rw [hr1] at hps2
      rw [hr1] at hR
      have hR : .inl e = R := hR
      subst hR
      have hps2 : t_ps J n (.inl e) := hps2
      have h5 := t_ps_e hps2
      repeat' (first
        | ((with_reducible refine @And.intro (vp_in _ _) _ ?_ ?_); (· (first | with_reducible assumption | ((with_reducible refine t_vin ?_); decide) | ((with_reducible refine vp_in_nI ?_ ?_) <;> first | omega | decide) | (simp (disch := omega) only [xl_n, xl_m, nI_dec, nI_sb, nI_add, pk_mul]; (with_reducible refine vp_in_nI ?_ ?_) <;> first | omega | decide))); (conv => whnf))
        | (refine And.intro (by first | with_reducible assumption | exact (show tL _ = _ from rfl) | decide) ?_; (conv => whnf))
        | ((with_reducible refine @And.intro (_ = _) _ ?_ ?_); (· rfl); (conv => whnf))
        | ((with_reducible refine @And.intro (@LE.le Nat _ _ _) _ ?_ ?_); (· (first | exact Nat.zero_le _ | exact Nat.le_of_ble_eq_true rfl | omega)); (conv => whnf))
        | ((with_reducible refine @And.intro (@LT.lt Nat _ _ _) _ ?_ ?_); (· omega); (conv => whnf))
        | ((with_reducible refine @And.intro (∃ _, _ = _) _ ?_ ?_); (· exact ⟨_, rfl⟩); (conv => whnf))
        | ((with_reducible refine @And.intro (_ ∨ _) _ ?_ ?_); (· (first | exact Or.inl rfl | exact Or.inr rfl | exact t_b01 _ | assumption)); (conv => whnf))
        | ((with_reducible refine @And.intro (¬ (_ = _)) _ ?_ ?_); (· first | assumption | (with_reducible assumption)); (conv => whnf))
        | (refine hX _ _ _ _ _ _ ?_; (conv => whnf); fail_if_success show False)
        | (rw [t_si]; (conv => whnf))
        | (refine ⟨_, rfl, ?_⟩; (conv => whnf))
        | (refine ⟨_, _, rfl, ?_⟩; (conv => whnf))
        | (refine ⟨_, _, _, rfl, ?_⟩; (conv => whnf))
        | (refine ⟨_, _, _, _, rfl, ?_⟩; (conv => whnf))
        | (refine ⟨_, _, (by with_reducible assumption), ?_⟩; (conv => whnf))
        | (refine ⟨_, (by first | with_reducible assumption | exact rfl), ?_⟩; (conv => whnf))
        | (refine And.intro (fun c => ?_) (fun c => ?_) <;> (first | (exact absurd c (by decide +kernel)) | (exact absurd c (by assumption)) | (exact False.elim (c (by assumption))) | (conv => whnf)))
        | fail)
      exact hQ _ hJ hps2 (fun F' k' h => by cases h)
    | inr e =>
      obtain ⟨v1, k1⟩ := e
      rw [hr1] at hps2
      rw [hr1] at hR
      have hk1 := (p_number_in hkn hr1).2
      rw [hF.2.2.1] at hr1
      obtain ⟨p, rfl, hpp⟩ := p_number_n (by have := hF.2.2.2.1; omega) hkn hr1
      have hp8 : p < 8 := Nat.lt_of_lt_of_le hpp hF.2.2.2.1
      have hR : (if t_has bits (nI p).toNatClampNeg = true then .inl (nI 2, p_bl f n k) else if m = 6 then .inl (nI 3, p_bl f n k) else
        p_actF f n (140 + a) u (xm_u2 (xm_u2 G (140 + a) (2 + m) (nI p)) (140 + a) 1 (nI (m + 1))) (m + 1) (bits ||| t_bit (nI p).toNatClampNeg) k1) = R := hR
      rw [nI_clamp (show p < 2 ^ 31 by omega)] at hR
      clear hr1
      have hps2 : t_ps J n (.inr k1) := hps2
      have h5 := t_ps_0 hps2
      have e1 : J (140 + a) 1 = nI m := (hrow 1 (by omega)).trans hG1
      rw [show p_v (.inr (nI p, k1)) = nI p from rfl]
      have hwrong : ∀ v, ¬ v = nI 0 → .inl (v, p_bl f n k) = R → Q none (tW (xm_u2 (xm_u2 J 0 5 v) 0 6 (nI (p_bl f n k)))) := fun v hv h => by
        subst h
        exact hQ _ (hJ.tr ((t_pf.u (Or.inr (Or.inl rfl))).tr (t_pf.u (Or.inr (Or.inr rfl)))).r) (t_ps_w hps2 hv) (fun F' k' h => by cases h)
      by_cases hh : t_has bits p = true
      · rw [if_pos hh] at hR
        have hw := hwrong _ (by decide +kernel) hR
        have hd : ¬ xm_u2 (xm_u2 J 0 5 (Int32.ofInt 2)) 0 6 (nI (p_bl f n k)) 0 5 = 0 := by
          rw [xm_u2_at, if_neg (by decide), xm_u2_at, if_pos rfl]
          decide +kernel
        repeat' (first
          | ((with_reducible refine @And.intro (vp_in _ _) _ ?_ ?_); (· (first | with_reducible assumption | ((with_reducible refine t_vin ?_); decide) | ((with_reducible refine vp_in_nI ?_ ?_) <;> first | omega | decide) | (simp (disch := omega) only [xl_n, xl_m, nI_dec, nI_sb, nI_add, pk_mul]; (with_reducible refine vp_in_nI ?_ ?_) <;> first | omega | decide))); (conv => whnf))
          | (refine And.intro (by first | with_reducible assumption | exact (show tL _ = _ from rfl) | decide) ?_; (conv => whnf))
          | ((with_reducible refine @And.intro (_ = _) _ ?_ ?_); (· rfl); (conv => whnf))
          | ((with_reducible refine @And.intro (@LE.le Nat _ _ _) _ ?_ ?_); (· (first | exact Nat.zero_le _ | exact Nat.le_of_ble_eq_true rfl | omega)); (conv => whnf))
          | ((with_reducible refine @And.intro (@LT.lt Nat _ _ _) _ ?_ ?_); (· omega); (conv => whnf))
          | ((with_reducible refine @And.intro (∃ _, _ = _) _ ?_ ?_); (· exact ⟨_, rfl⟩); (conv => whnf))
          | ((with_reducible refine @And.intro (_ ∨ _) _ ?_ ?_); (· (first | exact Or.inl rfl | exact Or.inr rfl | exact t_b01 _ | assumption)); (conv => whnf))
          | ((with_reducible refine @And.intro (¬ (_ = _)) _ ?_ ?_); (· first | assumption | (with_reducible assumption)); (conv => whnf))
          | (refine hX _ _ _ _ _ _ ?_; (conv => whnf); fail_if_success show False)
          | (rw [t_si]; (conv => whnf))
          | (refine ⟨_, rfl, ?_⟩; (conv => whnf))
          | (refine ⟨_, _, rfl, ?_⟩; (conv => whnf))
          | (refine ⟨_, _, _, rfl, ?_⟩; (conv => whnf))
          | (refine ⟨_, _, _, _, rfl, ?_⟩; (conv => whnf))
          | (rw [hh]; (conv => whnf))
          | (refine ⟨_, _, (by with_reducible assumption), ?_⟩; (conv => whnf))
          | (refine ⟨_, (by first | with_reducible assumption | exact rfl), ?_⟩; (conv => whnf))
          | (refine And.intro (fun c => ?_) (fun c => ?_) <;> (first | (exact absurd c (by decide +kernel)) | (exact absurd c (by assumption)) | (exact False.elim (c (by assumption))) | (conv => whnf)))
          | fail)
        simpa only [xl_n] using hw
      · rw [if_neg hh] at hR
        have hh : t_has bits p = false := by simpa using hh
        by_cases h6 : m = 6
        · rw [if_pos h6] at hR
          have hw := hwrong _ (by decide +kernel) hR
          have hd : ¬ xm_u2 (xm_u2 J 0 5 (Int32.ofInt 3)) 0 6 (nI (p_bl f n k)) 0 5 = 0 := by
            rw [xm_u2_at, if_neg (by decide), xm_u2_at, if_pos rfl]
            decide +kernel
          subst h6
          repeat' (first
            | ((with_reducible refine @And.intro (vp_in _ _) _ ?_ ?_); (· (first | with_reducible assumption | ((with_reducible refine t_vin ?_); decide) | ((with_reducible refine vp_in_nI ?_ ?_) <;> first | omega | decide) | (simp (disch := omega) only [xl_n, xl_m, nI_dec, nI_sb, nI_add, pk_mul]; (with_reducible refine vp_in_nI ?_ ?_) <;> first | omega | decide))); (conv => whnf))
            | (refine And.intro (by first | with_reducible assumption | exact (show tL _ = _ from rfl) | decide) ?_; (conv => whnf))
            | ((with_reducible refine @And.intro (_ = _) _ ?_ ?_); (· rfl); (conv => whnf))
            | ((with_reducible refine @And.intro (@LE.le Nat _ _ _) _ ?_ ?_); (· (first | exact Nat.zero_le _ | exact Nat.le_of_ble_eq_true rfl | omega)); (conv => whnf))
            | ((with_reducible refine @And.intro (@LT.lt Nat _ _ _) _ ?_ ?_); (· omega); (conv => whnf))
            | ((with_reducible refine @And.intro (∃ _, _ = _) _ ?_ ?_); (· exact ⟨_, rfl⟩); (conv => whnf))
            | ((with_reducible refine @And.intro (_ ∨ _) _ ?_ ?_); (· (first | exact Or.inl rfl | exact Or.inr rfl | exact t_b01 _ | assumption)); (conv => whnf))
            | ((with_reducible refine @And.intro (¬ (_ = _)) _ ?_ ?_); (· first | assumption | (with_reducible assumption)); (conv => whnf))
            | (refine hX _ _ _ _ _ _ ?_; (conv => whnf); fail_if_success show False)
            | (rw [t_si]; (conv => whnf))
            | (refine ⟨_, rfl, ?_⟩; (conv => whnf))
            | (refine ⟨_, _, rfl, ?_⟩; (conv => whnf))
            | (refine ⟨_, _, _, rfl, ?_⟩; (conv => whnf))
            | (refine ⟨_, _, _, _, rfl, ?_⟩; (conv => whnf))
            | (rw [t_l140 (by first | with_reducible assumption | omega | exact vp_lt (by assumption) | (rw [nI_clamp (by omega)]; omega))]; (conv => whnf))
            | (rw [hh]; (conv => whnf))
            | (rw [e1]; (conv => whnf))
            | (refine ⟨_, _, (by with_reducible assumption), ?_⟩; (conv => whnf))
            | (refine ⟨_, (by first | with_reducible assumption | exact rfl), ?_⟩; (conv => whnf))
            | (refine And.intro (fun c => ?_) (fun c => ?_) <;> (first | (exact absurd c (by decide +kernel)) | (exact absurd c (by assumption)) | (exact False.elim (c (by assumption))) | (conv => whnf)))
            | fail)
          simpa only [xl_n] using hw
        · rw [if_neg h6] at hR
          have hn6 : ¬ J (140 + a) 1 = Int32.ofInt 6 := by
            rw [e1, xl_n.2.2.2.2.2.2.1]
            exact fun z => h6 ((nI_eq (by omega) (by decide)).mp z)
          have := ih (xm_u2 (xm_u2 G (140 + a) (2 + m) (nI p)) (140 + a) 1 (nI (m + 1))) (bits ||| t_bit p) k1 (xm_u2 (xm_u2 J (140 + a) (2 + m) (nI p)) (140 + a) 1 (nI (m + 1))) (some (.int (nI (p_bl f n k)))) (some (.int (nI p))) (Or.inr ⟨_, rfl⟩) (Or.inr ⟨_, rfl⟩) (by omega) ((hJ.w hrr).w hrr) (t_ps_u (t_ps_u hps2 hb0) hb0) ((hrJ.ua (Nat.le_of_eq hFa)).ua (by rw [f_a_u (by omega)]; exact Nat.le_of_eq hFa)) ((hF.u (by omega)).u (by omega)) (by rw [f_a_u (by omega), f_a_u (by omega)]; exact hFa) (by rw [xm_u2_at, if_pos rfl]) (fun i hi => by
            by_cases q1 : i = 1
            · rw [q1, xm_u2_at, if_pos rfl, xm_u2_at, if_pos rfl]
            · simp only [xm_u2_at, if_neg q1]
              by_cases q2 : i = 2 + m
              · simp only [if_pos q2]
              · simp only [if_neg q2]
                exact hrow i (by omega)) hR
          clear ih hwrong hR hQ
          repeat' (first
            | ((with_reducible refine @And.intro (vp_in _ _) _ ?_ ?_); (· (first | with_reducible assumption | ((with_reducible refine t_vin ?_); decide) | ((with_reducible refine vp_in_nI ?_ ?_) <;> first | omega | decide) | (simp (disch := omega) only [xl_n, xl_m, nI_dec, nI_sb, nI_add, pk_mul]; (with_reducible refine vp_in_nI ?_ ?_) <;> first | omega | decide))); (conv => whnf))
            | (refine And.intro (by first | with_reducible assumption | exact (show tL _ = _ from rfl) | decide) ?_; (conv => whnf))
            | ((with_reducible refine @And.intro (_ = _) _ ?_ ?_); (· rfl); (conv => whnf))
            | ((with_reducible refine @And.intro (@LE.le Nat _ _ _) _ ?_ ?_); (· (first | exact Nat.zero_le _ | exact Nat.le_of_ble_eq_true rfl | omega)); (conv => whnf))
            | ((with_reducible refine @And.intro (@LT.lt Nat _ _ _) _ ?_ ?_); (· omega); (conv => whnf))
            | ((with_reducible refine @And.intro (∃ _, _ = _) _ ?_ ?_); (· exact ⟨_, rfl⟩); (conv => whnf))
            | ((with_reducible refine @And.intro (_ ∨ _) _ ?_ ?_); (· (first | exact Or.inl rfl | exact Or.inr rfl | exact t_b01 _ | assumption)); (conv => whnf))
            | ((with_reducible refine @And.intro (¬ (_ = _)) _ ?_ ?_); (· first | assumption | (with_reducible assumption)); (conv => whnf))
            | (refine hX _ _ _ _ _ _ ?_; (conv => whnf); fail_if_success show False)
            | (rw [t_si]; simp (disch := omega) only [xl_n, xl_m, nI_dec, nI_sb, xl_0, xl_1, tW_i, t_bn0, t_bn1, Classical.not_not, t_lt, nI_add, nI_1, pk_mul, nI_clamp, t_si, nI_eq, nI_leI, nM_ne, nM_ne, xm_u2_ne, xm_u2_at, reduceIte, tK_u, tA_u, Nat.reduceEqDiff]; (conv => whnf))
            | (refine ⟨_, rfl, ?_⟩; (conv => whnf))
            | (refine ⟨_, _, rfl, ?_⟩; (conv => whnf))
            | (refine ⟨_, _, _, rfl, ?_⟩; (conv => whnf))
            | (refine ⟨_, _, _, _, rfl, ?_⟩; (conv => whnf))
            | (rw [t_l140 (by first | with_reducible assumption | omega | exact vp_lt (by assumption) | (rw [nI_clamp (by omega)]; omega))]; (conv => whnf))
            | (rw [hh]; (conv => whnf))
            | (rw [e1]; (conv => whnf))
            | (refine ⟨_, _, (by with_reducible assumption), ?_⟩; (conv => whnf))
            | (refine ⟨_, (by first | with_reducible assumption | exact rfl), ?_⟩; (conv => whnf))
            | (refine And.intro (fun c => ?_) (fun c => ?_) <;> (first | (exact absurd c (by decide +kernel)) | (exact absurd c (by assumption)) | (exact False.elim (c (by assumption))) | (conv => whnf)))
            | fail)
          clear hX hG
          simp (disch := omega) only [xl_n, xl_m, nI_dec, nI_sb, xl_0, xl_1, tW_i, t_bn0, t_bn1, Classical.not_not, t_lt, nI_add, nI_1, pk_mul, nI_clamp, t_si, nI_eq, nI_leI, nM_ne, nM_ne, xm_set, show ¬ 1 = 2 + m by omega, if_false] at *
          exact this
  have s16a : ∀ u m, m + u = 6 → (∀ G bits k M o3 o4, (o3 = none ∨ ∃ z, o3 = some (.int z)) → (o4 = none ∨ ∃ z, o4 = some (.int z)) → u ≠ 0 → t_rf I M → t_ps M n (.inr k) → t_rea M G → t_fok G → f_a G = a → G (140 + a) 1 = nI (m + 1) → (∀ i, i < 2 + (m + 1) → M (140 + a) i = G (140 + a) i) → p_actF f n (140 + a) u G (m + 1) bits k = R → X 16 [some (.ref 0), some (.ref (140 + a)), some (.int bits), o3, o4] [] (tW M) 0 0) →
      ∀ G bits k M o3 o4, (o3 = none ∨ ∃ z, o3 = some (.int z)) → (o4 = none ∨ ∃ z, o4 = some (.int z)) → t_rf I M → t_ps M n (.inr k) → t_rea M G → t_fok G → f_a G = a → G (140 + a) 1 = nI m → (∀ i, i < 2 + m → M (140 + a) i = G (140 + a) i) → p_actF f n (140 + a) (u + 1) G m bits k = R → X 16 [some (.ref 0), some (.ref (140 + a)), some (.int bits), o3, o4] [] (tW M) 0 0 := by
    intro u m hmu ih G bits k M o3 o4 ho3 ho4 hM hp hr hF hFa hG1 hrow hR
    have s44 := s44 u m hmu ih G bits k
    clear ih
    obtain ⟨h5n, h4, hkn⟩ := t_ps_n hp
    have h5 := t_ps_0 hp
    have htM := hM.tx ht
    have e1 : M (140 + a) 1 = nI m := (hrow 1 (by omega)).trans hG1
    unfold p_actF at hR
    by_cases hm : m = 0
    · rw [if_neg (fun z => z.1 hm)] at hR
      have hz : M (140 + a) 1 = 0 := by rw [e1, hm, nI_0]
      have := s44 k M o3 o4 ho3 ho4 hM hkn hp rfl hr hF hFa hG1 hrow hR
      clear s44
      refine hG _ _ _ _ _ _ ?_
      (conv => whnf)
      repeat' (first
        | ((with_reducible refine @And.intro (vp_in _ _) _ ?_ ?_); (· (first | with_reducible assumption | ((with_reducible refine t_vin ?_); decide) | ((with_reducible refine vp_in_nI ?_ ?_) <;> first | omega | decide) | (simp (disch := omega) only [xl_n, xl_m, nI_dec, nI_sb, nI_add, pk_mul]; (with_reducible refine vp_in_nI ?_ ?_) <;> first | omega | decide))); (conv => whnf))
        | (refine And.intro (by first | with_reducible assumption | exact (show tL _ = _ from rfl) | decide) ?_; (conv => whnf))
        | ((with_reducible refine @And.intro (_ = _) _ ?_ ?_); (· rfl); (conv => whnf))
        | ((with_reducible refine @And.intro (@LE.le Nat _ _ _) _ ?_ ?_); (· (first | exact Nat.zero_le _ | exact Nat.le_of_ble_eq_true rfl | omega)); (conv => whnf))
        | ((with_reducible refine @And.intro (@LT.lt Nat _ _ _) _ ?_ ?_); (· omega); (conv => whnf))
        | ((with_reducible refine @And.intro (∃ _, _ = _) _ ?_ ?_); (· exact ⟨_, rfl⟩); (conv => whnf))
        | ((with_reducible refine @And.intro (_ ∨ _) _ ?_ ?_); (· (first | exact Or.inl rfl | exact Or.inr rfl | exact t_b01 _ | assumption)); (conv => whnf))
        | ((with_reducible refine @And.intro (¬ (_ = _)) _ ?_ ?_); (· first | assumption | (with_reducible assumption)); (conv => whnf))
        | (refine hX _ _ _ _ _ _ ?_; (conv => whnf); fail_if_success show False)
        | (rw [t_si]; (conv => whnf))
        | (refine ⟨_, rfl, ?_⟩; (conv => whnf))
        | (refine ⟨_, _, rfl, ?_⟩; (conv => whnf))
        | (refine ⟨_, _, _, rfl, ?_⟩; (conv => whnf))
        | (refine ⟨_, _, _, _, rfl, ?_⟩; (conv => whnf))
        | (rw [t_l140 (by first | with_reducible assumption | omega | exact vp_lt (by assumption) | (rw [nI_clamp (by omega)]; omega))]; (conv => whnf))
        | (refine ⟨_, _, (by with_reducible assumption), ?_⟩; (conv => whnf))
        | (refine ⟨_, (by first | with_reducible assumption | exact rfl), ?_⟩; (conv => whnf))
        | (refine And.intro (fun c => ?_) (fun c => ?_) <;> (first | (exact absurd c (by decide +kernel)) | (exact absurd c (by assumption)) | (exact False.elim (c (by assumption))) | (conv => whnf)))
        | fail)
      exact this
    · have hz : ¬ M (140 + a) 1 = 0 := by rw [e1]; exact nI_ne0 (by omega) (by omega)
      have hpB := t_ps_bl (f := f) hp
      have h5B := t_ps_0 hpB
      have h4B := (t_ps_n hpB).2.1
      have hbn := (t_ps_n hpB).2.2
      have hWB : t_pf M (xm_u2 M 0 4 (nI (p_bl f n k))) := t_pf.u (Or.inl rfl)
      have htB := hWB.tx htM
      by_cases hw : p_ls f n (p_bl f n k) = p_kw (Int32.ofInt 5) (Int32.ofInt 14) (Int32.ofInt 4) (Int32.ofInt 0) (Int32.ofInt 0) (Int32.ofInt 0) (Int32.ofInt 0)
      · rw [if_pos ⟨hm, hw⟩] at hR
        subst hR
        have hd := decide_eq_true hw
        clear s44
        refine hG _ _ _ _ _ _ ?_
        (conv => whnf)
        repeat' (first
          | ((with_reducible refine @And.intro (vp_in _ _) _ ?_ ?_); (· (first | with_reducible assumption | ((with_reducible refine t_vin ?_); decide) | ((with_reducible refine vp_in_nI ?_ ?_) <;> first | omega | decide) | (simp (disch := omega) only [xl_n, xl_m, nI_dec, nI_sb, nI_add, pk_mul]; (with_reducible refine vp_in_nI ?_ ?_) <;> first | omega | decide))); (conv => whnf))
          | (refine And.intro (by first | with_reducible assumption | exact (show tL _ = _ from rfl) | decide) ?_; (conv => whnf))
          | ((with_reducible refine @And.intro (_ = _) _ ?_ ?_); (· rfl); (conv => whnf))
          | ((with_reducible refine @And.intro (@LE.le Nat _ _ _) _ ?_ ?_); (· (first | exact Nat.zero_le _ | exact Nat.le_of_ble_eq_true rfl | omega)); (conv => whnf))
          | ((with_reducible refine @And.intro (@LT.lt Nat _ _ _) _ ?_ ?_); (· omega); (conv => whnf))
          | ((with_reducible refine @And.intro (∃ _, _ = _) _ ?_ ?_); (· exact ⟨_, rfl⟩); (conv => whnf))
          | ((with_reducible refine @And.intro (_ ∨ _) _ ?_ ?_); (· (first | exact Or.inl rfl | exact Or.inr rfl | exact t_b01 _ | assumption)); (conv => whnf))
          | ((with_reducible refine @And.intro (¬ (_ = _)) _ ?_ ?_); (· first | assumption | (with_reducible assumption)); (conv => whnf))
          | (refine hX _ _ _ _ _ _ ?_; (conv => whnf); fail_if_success show False)
          | (rw [t_si]; (conv => whnf))
          | (refine ⟨_, rfl, ?_⟩; (conv => whnf))
          | (refine ⟨_, _, rfl, ?_⟩; (conv => whnf))
          | (refine ⟨_, _, _, rfl, ?_⟩; (conv => whnf))
          | (refine ⟨_, _, _, _, rfl, ?_⟩; (conv => whnf))
          | (rw [t_l140 (by first | with_reducible assumption | omega | exact vp_lt (by assumption) | (rw [nI_clamp (by omega)]; omega))]; (conv => whnf))
          | (refine ⟨_,_,_,_,_,_,_,rfl,p_kok_d (by decide +kernel),(by assumption),?_⟩; (conv => whnf))
          | (rw [hd]; (conv => whnf))
          | (refine ⟨_, _, (by with_reducible assumption), ?_⟩; (conv => whnf))
          | (refine ⟨_, (by first | with_reducible assumption | exact rfl), ?_⟩; (conv => whnf))
          | (refine And.intro (fun c => ?_) (fun c => ?_) <;> (first | (exact absurd c (by decide +kernel)) | (exact absurd c (by assumption)) | (exact False.elim (c (by assumption))) | (conv => whnf)))
          | fail)
        clear hX hG
        have hpC : t_ps (xm_u2 (xm_u2 M 0 4 (nI (p_bl f n k))) 0 4 (nI (p_le f n (p_bl f n k)))) n (.inr (p_le f n (p_bl f n k))) := ⟨by rw [xm_u2_at, if_neg (by decide)]; exact (t_ps_n hpB).1, rfl, (p_le_in hbn).2⟩
        have hWC : t_pf (xm_u2 M 0 4 (nI (p_bl f n k))) (xm_u2 (xm_u2 M 0 4 (nI (p_bl f n k))) 0 4 (nI (p_le f n (p_bl f n k)))) := t_pf.u (Or.inl rfl)
        refine hQ _ ((hM.tr hWB.r).tr hWC.r) ⟨hpC, hWC.d (hWB.d hr)⟩ (fun F' k' h => ?_)
        cases h
        exact ⟨m, by omega, hG1, fun i hi => (congrFun ((hWB.tr hWC).1 _ hb0) i).trans (hrow i hi)⟩
      · rw [if_neg (fun z => hw z.2)] at hR
        have := s44 _ (xm_u2 M 0 4 (nI (p_bl f n k))) o3 o4 ho3 ho4 (hM.tr hWB.r) hkn hpB (p_bl_bl hkn) (hWB.d hr) hF hFa hG1 (fun i hi => (congrFun (hWB.1 _ hb0) i).trans (hrow i hi)) hR
        have hd := decide_eq_false hw
        clear s44
        refine hG _ _ _ _ _ _ ?_
        (conv => whnf)
        repeat' (first
          | ((with_reducible refine @And.intro (vp_in _ _) _ ?_ ?_); (· (first | with_reducible assumption | ((with_reducible refine t_vin ?_); decide) | ((with_reducible refine vp_in_nI ?_ ?_) <;> first | omega | decide) | (simp (disch := omega) only [xl_n, xl_m, nI_dec, nI_sb, nI_add, pk_mul]; (with_reducible refine vp_in_nI ?_ ?_) <;> first | omega | decide))); (conv => whnf))
          | (refine And.intro (by first | with_reducible assumption | exact (show tL _ = _ from rfl) | decide) ?_; (conv => whnf))
          | ((with_reducible refine @And.intro (_ = _) _ ?_ ?_); (· rfl); (conv => whnf))
          | ((with_reducible refine @And.intro (@LE.le Nat _ _ _) _ ?_ ?_); (· (first | exact Nat.zero_le _ | exact Nat.le_of_ble_eq_true rfl | omega)); (conv => whnf))
          | ((with_reducible refine @And.intro (@LT.lt Nat _ _ _) _ ?_ ?_); (· omega); (conv => whnf))
          | ((with_reducible refine @And.intro (∃ _, _ = _) _ ?_ ?_); (· exact ⟨_, rfl⟩); (conv => whnf))
          | ((with_reducible refine @And.intro (_ ∨ _) _ ?_ ?_); (· (first | exact Or.inl rfl | exact Or.inr rfl | exact t_b01 _ | assumption)); (conv => whnf))
          | ((with_reducible refine @And.intro (¬ (_ = _)) _ ?_ ?_); (· first | assumption | (with_reducible assumption)); (conv => whnf))
          | (refine hX _ _ _ _ _ _ ?_; (conv => whnf); fail_if_success show False)
          | (rw [t_si]; (conv => whnf))
          | (refine ⟨_, rfl, ?_⟩; (conv => whnf))
          | (refine ⟨_, _, rfl, ?_⟩; (conv => whnf))
          | (refine ⟨_, _, _, rfl, ?_⟩; (conv => whnf))
          | (refine ⟨_, _, _, _, rfl, ?_⟩; (conv => whnf))
          | (rw [t_l140 (by first | with_reducible assumption | omega | exact vp_lt (by assumption) | (rw [nI_clamp (by omega)]; omega))]; (conv => whnf))
          | (refine ⟨_,_,_,_,_,_,_,rfl,p_kok_d (by decide +kernel),(by assumption),?_⟩; (conv => whnf))
          | (rw [hd]; (conv => whnf))
          | (refine ⟨_, _, (by with_reducible assumption), ?_⟩; (conv => whnf))
          | (refine ⟨_, (by first | with_reducible assumption | exact rfl), ?_⟩; (conv => whnf))
          | (refine And.intro (fun c => ?_) (fun c => ?_) <;> (first | (exact absurd c (by decide +kernel)) | (exact absurd c (by assumption)) | (exact False.elim (c (by assumption))) | (conv => whnf)))
          | fail)
        exact this
  have s16 : ∀ u m, m + u = 6 → ∀ G bits k M o3 o4, (o3 = none ∨ ∃ z, o3 = some (.int z)) → (o4 = none ∨ ∃ z, o4 = some (.int z)) → t_rf I M → t_ps M n (.inr k) → t_rea M G → t_fok G → f_a G = a → G (140 + a) 1 = nI m → (∀ i, i < 2 + m → M (140 + a) i = G (140 + a) i) → p_actF f n (140 + a) (u + 1) G m bits k = R → X 16 [some (.ref 0), some (.ref (140 + a)), some (.int bits), o3, o4] [] (tW M) 0 0 := by
    intro u
    induction u with
    | zero => exact fun m hmu => s16a 0 m hmu (fun G bits k M o3 o4 h3 h4 hu => absurd rfl hu)
    | succ u ih => exact fun m hmu => s16a (u + 1) m hmu (fun G bits k M o3 o4 h3 h4 _ hM hp hr hF hFa hG1 hrow hR => ih (m + 1) (by omega) G bits k M o3 o4 h3 h4 hM hp hr hF hFa hG1 hrow hR)
  refine ⟨rfl, ?_⟩
  repeat' (first
    | ((with_reducible refine @And.intro (vp_in _ _) _ ?_ ?_); (· (first | with_reducible assumption | ((with_reducible refine t_vin ?_); decide) | ((with_reducible refine vp_in_nI ?_ ?_) <;> first | omega | decide) | (simp (disch := omega) only [xl_n, xl_m, nI_dec, nI_sb, nI_add, pk_mul]; (with_reducible refine vp_in_nI ?_ ?_) <;> first | omega | decide))); (conv => whnf))
    | (refine And.intro (by first | with_reducible assumption | exact (show tL _ = _ from rfl) | decide) ?_; (conv => whnf))
    | ((with_reducible refine @And.intro (_ = _) _ ?_ ?_); (· rfl); (conv => whnf))
    | ((with_reducible refine @And.intro (@LE.le Nat _ _ _) _ ?_ ?_); (· (first | exact Nat.zero_le _ | exact Nat.le_of_ble_eq_true rfl | omega)); (conv => whnf))
    | ((with_reducible refine @And.intro (@LT.lt Nat _ _ _) _ ?_ ?_); (· omega); (conv => whnf))
    | ((with_reducible refine @And.intro (∃ _, _ = _) _ ?_ ?_); (· exact ⟨_, rfl⟩); (conv => whnf))
    | ((with_reducible refine @And.intro (_ ∨ _) _ ?_ ?_); (· (first | exact Or.inl rfl | exact Or.inr rfl | exact t_b01 _ | assumption)); (conv => whnf))
    | ((with_reducible refine @And.intro (¬ (_ = _)) _ ?_ ?_); (· first | assumption | (with_reducible assumption)); (conv => whnf))
    | (refine hX _ _ _ _ _ _ ?_; (conv => whnf); fail_if_success show False)
    | (rw [t_si]; (conv => whnf))
    | (refine ⟨_, rfl, ?_⟩; (conv => whnf))
    | (refine ⟨_, _, rfl, ?_⟩; (conv => whnf))
    | (refine ⟨_, _, _, rfl, ?_⟩; (conv => whnf))
    | (refine ⟨_, _, _, _, rfl, ?_⟩; (conv => whnf))
    | (refine ⟨_, _, (by with_reducible assumption), ?_⟩; (conv => whnf))
    | (refine ⟨_, (by first | with_reducible assumption | exact rfl), ?_⟩; (conv => whnf))
    | (refine And.intro (fun c => ?_) (fun c => ?_) <;> (first | (exact absurd c (by decide +kernel)) | (exact absurd c (by assumption)) | (exact False.elim (c (by assumption))) | (conv => whnf)))
    | fail)
  intro J hJ hps
  simp only [xl_n] at hps ⊢
  have htJ := hJ.tx ht
  have hrJ := hJ.d hr
  have hJ := hJ.r
  (conv => whnf)
  cases hr0 : p_go (.inr k) (p_number f n (nI 0) (nI 9)) with
  | inl e =>
    rw [hr0] at hps
    rw [show p_number f n (nI 0) (nI 9) k = .inl e from hr0] at hR
    have hR : R = .inl e := hR
    subst hR
    have hps : t_ps J n (.inl e) := hps
    have h5 := t_ps_e hps
    have h16 : X 16 [some (.ref 0), some (.ref (140 + a)), some (.int (nI 0)), none, none] [] (tW (xm_u2 (xm_u2 J (140 + a) 0 (p_v (.inl e))) (140 + a) 1 (nI 0))) 0 0 := by
      clear s16 s16a s44
      have h5B := t_ps_e (t_ps_u (k := 1) (v := nI 0) (t_ps_u (k := 0) (v := p_v (.inl e)) hps hb0) hb0)
      refine hG _ _ _ _ _ _ ?_
      (conv => whnf)
      repeat' (first
        | ((with_reducible refine @And.intro (vp_in _ _) _ ?_ ?_); (· (first | with_reducible assumption | ((with_reducible refine t_vin ?_); decide) | ((with_reducible refine vp_in_nI ?_ ?_) <;> first | omega | decide) | (simp (disch := omega) only [xl_n, xl_m, nI_dec, nI_sb, nI_add, pk_mul]; (with_reducible refine vp_in_nI ?_ ?_) <;> first | omega | decide))); (conv => whnf))
        | (refine And.intro (by first | with_reducible assumption | exact (show tL _ = _ from rfl) | decide) ?_; (conv => whnf))
        | ((with_reducible refine @And.intro (_ = _) _ ?_ ?_); (· rfl); (conv => whnf))
        | ((with_reducible refine @And.intro (@LE.le Nat _ _ _) _ ?_ ?_); (· (first | exact Nat.zero_le _ | exact Nat.le_of_ble_eq_true rfl | omega)); (conv => whnf))
        | ((with_reducible refine @And.intro (@LT.lt Nat _ _ _) _ ?_ ?_); (· omega); (conv => whnf))
        | ((with_reducible refine @And.intro (∃ _, _ = _) _ ?_ ?_); (· exact ⟨_, rfl⟩); (conv => whnf))
        | ((with_reducible refine @And.intro (_ ∨ _) _ ?_ ?_); (· (first | exact Or.inl rfl | exact Or.inr rfl | exact t_b01 _ | assumption)); (conv => whnf))
        | ((with_reducible refine @And.intro (¬ (_ = _)) _ ?_ ?_); (· first | assumption | (with_reducible assumption)); (conv => whnf))
        | (refine hX _ _ _ _ _ _ ?_; (conv => whnf); fail_if_success show False)
        | (rw [t_si]; (conv => whnf))
        | (refine ⟨_, rfl, ?_⟩; (conv => whnf))
        | (refine ⟨_, _, rfl, ?_⟩; (conv => whnf))
        | (refine ⟨_, _, _, rfl, ?_⟩; (conv => whnf))
        | (refine ⟨_, _, _, _, rfl, ?_⟩; (conv => whnf))
        | (refine ⟨_, _, (by with_reducible assumption), ?_⟩; (conv => whnf))
        | (refine ⟨_, (by first | with_reducible assumption | exact rfl), ?_⟩; (conv => whnf))
        | (refine And.intro (fun c => ?_) (fun c => ?_) <;> (first | (exact absurd c (by decide +kernel)) | (exact absurd c (by assumption)) | (exact False.elim (c (by assumption))) | (conv => whnf)))
        | fail)
      exact hQ _ ((hJ.w hrr).w hrr) (t_ps_u (t_ps_u hps hb0) hb0) (fun F' k' h => by cases h)
    clear s16 s16a s44
    repeat' (first
      | ((with_reducible refine @And.intro (vp_in _ _) _ ?_ ?_); (· (first | with_reducible assumption | ((with_reducible refine t_vin ?_); decide) | ((with_reducible refine vp_in_nI ?_ ?_) <;> first | omega | decide) | (simp (disch := omega) only [xl_n, xl_m, nI_dec, nI_sb, nI_add, pk_mul]; (with_reducible refine vp_in_nI ?_ ?_) <;> first | omega | decide))); (conv => whnf))
      | (refine And.intro (by first | with_reducible assumption | exact (show tL _ = _ from rfl) | decide) ?_; (conv => whnf))
      | ((with_reducible refine @And.intro (_ = _) _ ?_ ?_); (· rfl); (conv => whnf))
      | ((with_reducible refine @And.intro (@LE.le Nat _ _ _) _ ?_ ?_); (· (first | exact Nat.zero_le _ | exact Nat.le_of_ble_eq_true rfl | omega)); (conv => whnf))
      | ((with_reducible refine @And.intro (@LT.lt Nat _ _ _) _ ?_ ?_); (· omega); (conv => whnf))
      | ((with_reducible refine @And.intro (∃ _, _ = _) _ ?_ ?_); (· exact ⟨_, rfl⟩); (conv => whnf))
      | ((with_reducible refine @And.intro (_ ∨ _) _ ?_ ?_); (· (first | exact Or.inl rfl | exact Or.inr rfl | exact t_b01 _ | assumption)); (conv => whnf))
      | ((with_reducible refine @And.intro (¬ (_ = _)) _ ?_ ?_); (· first | assumption | (with_reducible assumption)); (conv => whnf))
      | (refine hX _ _ _ _ _ _ ?_; (conv => whnf); fail_if_success show False)
      | (rw [t_si]; simp (disch := omega) only [xl_n, xl_m, nI_dec, nI_sb, xl_0, xl_1, tW_i, t_bn0, t_bn1, Classical.not_not, t_lt, nI_add, nI_1, pk_mul, nI_clamp, t_si, nI_eq, nI_leI, nM_ne, nM_ne, xm_u2_ne, xm_u2_at, reduceIte, tK_u, tA_u, Nat.reduceEqDiff]; (conv => whnf))
      | (refine ⟨_, rfl, ?_⟩; (conv => whnf))
      | (refine ⟨_, _, rfl, ?_⟩; (conv => whnf))
      | (refine ⟨_, _, _, rfl, ?_⟩; (conv => whnf))
      | (refine ⟨_, _, _, _, rfl, ?_⟩; (conv => whnf))
      | (rw [t_l140 (by first | with_reducible assumption | omega | exact vp_lt (by assumption) | (rw [nI_clamp (by omega)]; omega))]; (conv => whnf))
      | (refine ⟨_, _, (by with_reducible assumption), ?_⟩; (conv => whnf))
      | (refine ⟨_, (by first | with_reducible assumption | exact rfl), ?_⟩; (conv => whnf))
      | (refine And.intro (fun c => ?_) (fun c => ?_) <;> (first | (exact absurd c (by decide +kernel)) | (exact absurd c (by assumption)) | (exact False.elim (c (by assumption))) | (conv => whnf)))
      | fail)
    exact h16
  | inr e =>
    obtain ⟨v0, k0⟩ := e
    rw [hr0] at hps
    have hr0 : p_number f n (nI 0) (nI 9) k = .inr (v0, k0) := hr0
    rw [hr0] at hR
    have hR : R = p_actF f n (140 + a) 7 (xm_u2 (xm_u2 F (140 + a) 0 v0) (140 + a) 1 (nI 0)) 0 (nI 0) k0 := hR
    have hps : t_ps J n (.inr k0) := hps
    have h16 := s16 6 0 rfl (xm_u2 (xm_u2 F (140 + a) 0 v0) (140 + a) 1 (nI 0)) (nI 0) k0 (xm_u2 (xm_u2 J (140 + a) 0 v0) (140 + a) 1 (nI 0)) none none (Or.inl rfl) (Or.inl rfl) ((hJ.w hrr).w hrr) (t_ps_u (t_ps_u hps hb0) hb0) ((hrJ.ua (Nat.le_of_eq hFa)).ua (by rw [f_a_u (by omega)]; exact Nat.le_of_eq hFa)) ((hF.u (by omega)).u (by omega)) (by rw [f_a_u (by omega), f_a_u (by omega)]; exact hFa) (by rw [xm_u2_at, if_pos rfl]) (fun i hi => by
      match i, hi with
      | 0, _ => simp [xm_u2]
      | 1, _ => simp [xm_u2]) hR.symm
    clear s16 s16a s44
    repeat' (first
      | ((with_reducible refine @And.intro (vp_in _ _) _ ?_ ?_); (· (first | with_reducible assumption | ((with_reducible refine t_vin ?_); decide) | ((with_reducible refine vp_in_nI ?_ ?_) <;> first | omega | decide) | (simp (disch := omega) only [xl_n, xl_m, nI_dec, nI_sb, nI_add, pk_mul]; (with_reducible refine vp_in_nI ?_ ?_) <;> first | omega | decide))); (conv => whnf))
      | (refine And.intro (by first | with_reducible assumption | exact (show tL _ = _ from rfl) | decide) ?_; (conv => whnf))
      | ((with_reducible refine @And.intro (_ = _) _ ?_ ?_); (· rfl); (conv => whnf))
      | ((with_reducible refine @And.intro (@LE.le Nat _ _ _) _ ?_ ?_); (· (first | exact Nat.zero_le _ | exact Nat.le_of_ble_eq_true rfl | omega)); (conv => whnf))
      | ((with_reducible refine @And.intro (@LT.lt Nat _ _ _) _ ?_ ?_); (· omega); (conv => whnf))
      | ((with_reducible refine @And.intro (∃ _, _ = _) _ ?_ ?_); (· exact ⟨_, rfl⟩); (conv => whnf))
      | ((with_reducible refine @And.intro (_ ∨ _) _ ?_ ?_); (· (first | exact Or.inl rfl | exact Or.inr rfl | exact t_b01 _ | assumption)); (conv => whnf))
      | ((with_reducible refine @And.intro (¬ (_ = _)) _ ?_ ?_); (· first | assumption | (with_reducible assumption)); (conv => whnf))
      | (refine hX _ _ _ _ _ _ ?_; (conv => whnf); fail_if_success show False)
      | (rw [t_si]; simp (disch := omega) only [xl_n, xl_m, nI_dec, nI_sb, xl_0, xl_1, tW_i, t_bn0, t_bn1, Classical.not_not, t_lt, nI_add, nI_1, pk_mul, nI_clamp, t_si, nI_eq, nI_leI, nM_ne, nM_ne, xm_u2_ne, xm_u2_at, reduceIte, tK_u, tA_u, Nat.reduceEqDiff]; (conv => whnf))
      | (refine ⟨_, rfl, ?_⟩; (conv => whnf))
      | (refine ⟨_, _, rfl, ?_⟩; (conv => whnf))
      | (refine ⟨_, _, _, rfl, ?_⟩; (conv => whnf))
      | (refine ⟨_, _, _, _, rfl, ?_⟩; (conv => whnf))
      | (rw [t_l140 (by first | with_reducible assumption | omega | exact vp_lt (by assumption) | (rw [nI_clamp (by omega)]; omega))]; (conv => whnf))
      | (refine ⟨_, _, (by with_reducible assumption), ?_⟩; (conv => whnf))
      | (refine ⟨_, (by first | with_reducible assumption | exact rfl), ?_⟩; (conv => whnf))
      | (refine And.intro (fun c => ?_) (fun c => ?_) <;> (first | (exact absurd c (by decide +kernel)) | (exact absurd c (by assumption)) | (exact False.elim (c (by assumption))) | (conv => whnf)))
      | fail)
    exact h16
theorem ct_X11_actHere {Iv : xI} (hI : xm_good Iv) : xm_Ct Iv yX11_actHere (ws_ yX11_actHere cX11_actHere 5 none) 5 0 0 S_X11_actHere := xm_enter (rt := 2) (init := false) (by decide +kernel) rfl (fun h => by cases h) (Or.inr (Or.inr (Or.inl ⟨rfl, rfl⟩))) (oX11_actHere hI) body_X11_actHere
theorem cv_X11_actHere {Iv : xI} {own : String} {cc : ByteArray} {fr pc idx : Nat} (hI : xm_good Iv) (hdg : decode cc pc = .ok (.invokevirtual idx, 3)) (hl : xm_ml own idx yX11_actHere) (hfr : 5 < fr) : xm_CallOK Iv own cc fr pc (pc + 3) 2 0 0 (xm_this 8 S_X11_actHere) := xm_callV 8 hI (ct_X11_actHere hI) hdg hl q2204 qs66 q145 q2205 rfl rfl (by decide +kernel) hfr (by decide)

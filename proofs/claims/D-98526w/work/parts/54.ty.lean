/-! ===== the reference: which lines of the book are right ===== -/
set_option maxRecDepth 100000
def g_pre (P : Nat → Bool) : Nat → Nat → Nat
  | 0, k => k
  | f + 1, k => if P k = true then g_pre P f (k + 1) else k
theorem g_pre_s {P : Nat → Bool} {f k : Nat} : g_pre P (f + 1) k = if P k = true then g_pre P f (k + 1) else k := rfl
def g_lny (G : gG) (k : Nat) : Nat := (gln G k 0).toNatClampNeg
def g_lineok (K : gK) (G : gG) (k : Nat) : Bool := t_has (gw (g_gos K (g_lny G k) (gbeg G)) (gln G k 1).toNatClampNeg) (gln G k 2).toNatClampNeg
def g_right (K : gK) (G : gG) : Nat := g_pre (g_lineok K G) (glns G) 0
def g_lst (G : gG) (n : Nat) : Nat := t_fold n (fun k m => max m (g_lny G k)) 0
theorem g_lst_s {G : gG} {n : Nat} : g_lst G (n + 1) = max (g_lst G n) (g_lny G n) := rfl
theorem g_lst_ge {G : gG} : ∀ {n k : Nat}, k < n → g_lny G k ≤ g_lst G n
  | 0, k, h => by omega
  | n + 1, k, h => by
    rw [g_lst_s]
    by_cases e : k = n
    · subst e
      exact Nat.le_max_right _ _
    · exact Nat.le_trans (g_lst_ge (n := n) (by omega)) (Nat.le_max_left _ _)
theorem g_lst_le {G : gG} {m : Nat} (hm : ∀ k, k < m → g_lny G k ≤ 60) : ∀ {n : Nat}, n ≤ m → g_lst G n ≤ 60
  | 0, _ => Nat.zero_le _
  | n + 1, h => by
    rw [g_lst_s]
    exact Nat.max_le.mpr ⟨g_lst_le hm (n := n) (by omega), hm n (by omega)⟩
theorem t_more_nI {a b : Nat} (ha : a < 2 ^ 31) (hb : b < 2 ^ 31) : t_more (nI a) (nI b) = nI (max a b) := by
  unfold t_more
  by_cases q : a ≤ b
  · rw [if_pos (nI_le q hb), Nat.max_eq_right q]
  · rw [if_neg (nI_ge (by omega) ha), Nat.max_eq_left (by omega)]
theorem t_line {I : tI} (hg : t_good I) {k : Nat} (hk : k < t_l I) : I (600 + k) 0 = nI (g_lny (tG I) k) ∧ 1 ≤ g_lny (tG I) k ∧ g_lny (tG I) k ≤ 60 ∧ ∃ p h, p < t_p I ∧ h < t_h I ∧ I (600 + k) 1 = nI p ∧ I (600 + k) 2 = nI h ∧ ∀ K, g_lineok K (tG I) k = t_has (gw (g_gos K (g_lny (tG I) k) (tA I 38)) p) h := by
  obtain ⟨p, h, y, hp, hh, e1, e2, e0, y1, y60⟩ := hg.2.2.2.2.2.2.2 k hk
  have h8 := hg.1.2.2.2.1
  have h9 := hg.1.2.1
  have l : ∀ i, i < 3 → gln (tG I) k i = I (600 + k) i := fun i hi => if_pos ⟨hk, hi⟩
  have ey : g_lny (tG I) k = y := by
    unfold g_lny
    rw [l 0 (by decide), e0, nI_clamp (by omega)]
  rw [ey]
  refine ⟨e0, y1, y60, p, h, hp, hh, e1, e2, fun K => ?_⟩
  unfold g_lineok
  rw [ey, l 1 (by decide), l 2 (by decide), e1, e2, nI_clamp (by omega), nI_clamp (by omega)]
  rfl
theorem t_vpb (b : Bool) : vp_nar (xm_aty 102) (t_b b) = t_b b := by cases b <;> decide +kernel
theorem t_vp0 : vp_nar (xm_aty 102) (nI 0) = t_b false := by decide +kernel
theorem t_vp1 : vp_nar (xm_aty 102) (nI 1) = t_b true := by decide +kernel
def g_seen (K : gK) (G : gG) (y k : Nat) : Bool := decide (g_lny G k ≤ y) && g_lineok K G k
theorem g_pre_c {P Q : Nat → Bool} {n : Nat} (h : ∀ j, j < n → P j = Q j) : ∀ f k, k + f ≤ n → g_pre P f k = g_pre Q f k
  | 0, _, _ => rfl
  | f + 1, k, hk => by rw [g_pre_s, g_pre_s, h k (by omega), g_pre_c h f (k + 1) (by omega)]
abbrev bX11_rightLines_0 : List xE := [(.iconst 0, 1, 0, 0, 0), (.istore_n 1, 2, 0, 0, 0), (.iconst 0, 3, 0, 0, 0), (.istore_n 2, 4, 0, 0, 0), (.iconst 0, 5, 0, 0, 0), (.istore_n 3, 6, 0, 0, 0)]
abbrev bX11_rightLines_6 : List xE := [(.iload_n 3, 7, 0, 0, 0), (.aload_n 0, 8, 0, 0, 0), (.getfield 273, 11, 8, 41, 0), (.if_icmp .ge 29, 14, 0, 40, 0), (.iload_n 1, 15, 0, 0, 0), (.aload_n 0, 16, 0, 0, 0), (.getfield 76, 19, 8, 31, 1), (.iload_n 3, 20, 0, 0, 0), (.aaload, 21, 0, 0, 0), (.iconst 0, 22, 0, 0, 0), (.iaload, 23, 0, 0, 0), (.invokestatic 313, 26, 0, 0, 9), (.istore_n 1, 27, 0, 0, 0), (.aload_n 0, 28, 0, 0, 0), (.getfield 121, 31, 8, 54, 1), (.iload_n 3, 32, 0, 0, 0), (.iconst 0, 33, 0, 0, 0), (.bastore, 34, 0, 0, 0), (.iinc 3 1, 37, 0, 0, 0), (.goto (-31), 40, 0, 6, 0)]
abbrev bX11_rightLines_40 : List xE := [(.aload_n 0, 41, 0, 0, 0), (.getfield 97, 44, 8, 38, 1), (.aload_n 0, 45, 0, 0, 0), (.getfield 103, 48, 8, 40, 1), (.invokestatic 266, 51, 0, 1, 9), (.iconst 1, 52, 0, 0, 0), (.istore_n 3, 53, 0, 0, 0)]
abbrev bX11_rightLines_53 : List xE := [(.iload_n 3, 54, 0, 0, 0), (.iload_n 1, 55, 0, 0, 0), (.if_icmp .gt 101, 58, 0, 156, 0), (.aload_n 0, 59, 0, 0, 0), (.aload_n 0, 60, 0, 0, 0), (.getfield 103, 63, 8, 40, 1), (.invokevirtual 385, 66, 0, 2, 9), (.iconst 0, 67, 0, 0, 0), (.istore 4, 69, 0, 0, 0)]
abbrev bX11_rightLines_69 : List xE := [(.iload 4, 71, 0, 0, 0), (.aload_n 0, 72, 0, 0, 0), (.getfield 273, 75, 8, 41, 0), (.if_icmp .ge 75, 78, 0, 150, 0), (.aload_n 0, 79, 0, 0, 0), (.getfield 121, 82, 8, 54, 1), (.iload 4, 84, 0, 0, 0), (.aload_n 0, 85, 0, 0, 0), (.getfield 121, 88, 8, 54, 1), (.iload 4, 90, 0, 0, 0), (.baload, 91, 0, 0, 0), (.ifCond .ne 47, 94, 0, 138, 0), (.aload_n 0, 95, 0, 0, 0), (.getfield 76, 98, 8, 31, 1), (.iload 4, 100, 0, 0, 0), (.aaload, 101, 0, 0, 0), (.iconst 0, 102, 0, 0, 0), (.iaload, 103, 0, 0, 0), (.iload_n 3, 104, 0, 0, 0), (.if_icmp .ne 38, 107, 0, 142, 0), (.aload_n 0, 108, 0, 0, 0), (.getfield 103, 111, 8, 40, 1), (.iconst 1, 112, 0, 0, 0), (.aload_n 0, 113, 0, 0, 0), (.getfield 76, 116, 8, 31, 1), (.iload 4, 118, 0, 0, 0), (.aaload, 119, 0, 0, 0), (.iconst 1, 120, 0, 0, 0), (.iaload, 121, 0, 0, 0), (.iadd, 122, 0, 0, 0), (.iaload, 123, 0, 0, 0), (.aload_n 0, 124, 0, 0, 0), (.getfield 76, 127, 8, 31, 1), (.iload 4, 129, 0, 0, 0), (.aaload, 130, 0, 0, 0), (.iconst 2, 131, 0, 0, 0), (.iaload, 132, 0, 0, 0), (.invokestatic 242, 135, 0, 3, 9), (.ifCond .eq 7, 138, 0, 142, 0)]
abbrev bX11_rightLines_138 : List xE := [(.iconst 1, 139, 0, 0, 0), (.goto 4, 142, 0, 143, 0)]
abbrev bX11_rightLines_142 : List xE := [(.iconst 0, 143, 0, 0, 0)]
abbrev bX11_rightLines_143 : List xE := [(.bastore, 144, 0, 0, 0), (.iinc 4 1, 147, 0, 0, 0), (.goto (-78), 150, 0, 69, 0)]
abbrev bX11_rightLines_150 : List xE := [(.iinc 3 1, 153, 0, 0, 0), (.goto (-100), 156, 0, 53, 0)]
abbrev bX11_rightLines_156 : List xE := [(.iload_n 2, 157, 0, 0, 0), (.aload_n 0, 158, 0, 0, 0), (.getfield 273, 161, 8, 41, 0), (.if_icmp .ge 18, 164, 0, 179, 0), (.aload_n 0, 165, 0, 0, 0), (.getfield 121, 168, 8, 54, 1), (.iload_n 2, 169, 0, 0, 0), (.baload, 170, 0, 0, 0), (.ifCond .eq 9, 173, 0, 179, 0), (.iinc 2 1, 176, 0, 0, 0), (.goto (-20), 179, 0, 156, 0)]
abbrev bX11_rightLines_179 : List xE := [(.iload_n 2, 180, 0, 0, 0), (.ireturn, 181, 0, 0, 0)]
abbrev kX11_rightLines : List (Nat × List xE) := [(0, bX11_rightLines_0), (6, bX11_rightLines_6), (40, bX11_rightLines_40), (53, bX11_rightLines_53), (69, bX11_rightLines_69), (138, bX11_rightLines_138), (142, bX11_rightLines_142), (143, bX11_rightLines_143), (150, bX11_rightLines_150), (156, bX11_rightLines_156), (179, bX11_rightLines_179)]
abbrev lX11_rightLines : List (Nat × Nat × Nat × xS) := [(2, 0, 0, S_X11_more), (2, 0, 0, S_X11_copies), (2, 0, 0, xm_this 8 S_X11_goes), (2, 0, 0, S_X11_has)]
theorem oX11_rightLines_0 {Iv : xI} (hI : xm_good Iv)  : xm_okb Iv RX11 cX11_rightLines false 7 lX11_rightLines bX11_rightLines_0 0 := xo_0 dX11_rightLines_0 rfl trivial (xo_0 dX11_rightLines_1 rfl trivial (xo_0 dX11_rightLines_2 rfl trivial (xo_0 dX11_rightLines_3 rfl trivial (xo_0 dX11_rightLines_4 rfl trivial (xo_0 dX11_rightLines_5 rfl trivial (xo_n))))))
theorem oX11_rightLines_6 {Iv : xI} (hI : xm_good Iv)  : xm_okb Iv RX11 cX11_rightLines false 7 lX11_rightLines bX11_rightLines_6 6 := xo_0 dX11_rightLines_6 rfl trivial (xo_0 dX11_rightLines_7 rfl trivial (xo_0 dX11_rightLines_8 rfl (xm_fg_of (Or.inl q1996) (by decide) rfl (by decide) rfl rfl (Or.inl rfl) rfl) (xo_0 dX11_rightLines_11 rfl rfl (xo_0 dX11_rightLines_14 rfl trivial (xo_0 dX11_rightLines_15 rfl trivial (xo_1 dX11_rightLines_16 rfl (xm_fg_of (Or.inl q1986) (by decide) rfl (by decide) rfl rfl (Or.inl rfl) rfl) (xo_0 dX11_rightLines_19 rfl trivial (xo_0 dX11_rightLines_20 rfl trivial (xo_0 dX11_rightLines_21 rfl trivial (xo_0 dX11_rightLines_22 rfl trivial (xo_c rfl (cv_X11_more hI dX11_rightLines_23 (Or.inl q2312) (by decide)) (xo_0 dX11_rightLines_26 rfl trivial (xo_0 dX11_rightLines_27 rfl trivial (xo_1 dX11_rightLines_28 rfl (xm_fg_of (Or.inl q2009) (by decide) rfl (by decide) rfl rfl (Or.inl rfl) rfl) (xo_0 dX11_rightLines_31 rfl trivial (xo_0 dX11_rightLines_32 rfl trivial (xo_0 dX11_rightLines_33 rfl trivial (xo_0 dX11_rightLines_34 rfl trivial (xo_0 dX11_rightLines_37 rfl rfl (xo_n))))))))))))))))))))
theorem oX11_rightLines_40 {Iv : xI} (hI : xm_good Iv)  : xm_okb Iv RX11 cX11_rightLines false 7 lX11_rightLines bX11_rightLines_40 40 := xo_0 dX11_rightLines_40 rfl trivial (xo_1 dX11_rightLines_41 rfl (xm_fg_of (Or.inl q1993) (by decide) rfl (by decide) rfl rfl (Or.inl rfl) rfl) (xo_0 dX11_rightLines_44 rfl trivial (xo_1 dX11_rightLines_45 rfl (xm_fg_of (Or.inl q1995) (by decide) rfl (by decide) rfl rfl (Or.inl rfl) rfl) (xo_c rfl (cv_X11_copies hI dX11_rightLines_48 (Or.inl q1948) (by decide)) (xo_0 dX11_rightLines_51 rfl trivial (xo_0 dX11_rightLines_52 rfl trivial (xo_n)))))))
theorem oX11_rightLines_53 {Iv : xI} (hI : xm_good Iv)  : xm_okb Iv RX11 cX11_rightLines false 7 lX11_rightLines bX11_rightLines_53 53 := xo_0 dX11_rightLines_53 rfl trivial (xo_0 dX11_rightLines_54 rfl trivial (xo_0 dX11_rightLines_55 rfl rfl (xo_0 dX11_rightLines_58 rfl trivial (xo_0 dX11_rightLines_59 rfl trivial (xo_1 dX11_rightLines_60 rfl (xm_fg_of (Or.inl q1995) (by decide) rfl (by decide) rfl rfl (Or.inl rfl) rfl) (xo_c rfl (cv_X11_goes hI dX11_rightLines_63 (Or.inl q2378) (by decide)) (xo_0 dX11_rightLines_66 rfl trivial (xo_0 dX11_rightLines_67 rfl trivial (xo_n)))))))))
theorem oX11_rightLines_69 {Iv : xI} (hI : xm_good Iv)  : xm_okb Iv RX11 cX11_rightLines false 7 lX11_rightLines bX11_rightLines_69 69 := xo_0 dX11_rightLines_69 rfl trivial (xo_0 dX11_rightLines_71 rfl trivial (xo_0 dX11_rightLines_72 rfl (xm_fg_of (Or.inl q1996) (by decide) rfl (by decide) rfl rfl (Or.inl rfl) rfl) (xo_0 dX11_rightLines_75 rfl rfl (xo_0 dX11_rightLines_78 rfl trivial (xo_1 dX11_rightLines_79 rfl (xm_fg_of (Or.inl q2009) (by decide) rfl (by decide) rfl rfl (Or.inl rfl) rfl) (xo_0 dX11_rightLines_82 rfl trivial (xo_0 dX11_rightLines_84 rfl trivial (xo_1 dX11_rightLines_85 rfl (xm_fg_of (Or.inl q2009) (by decide) rfl (by decide) rfl rfl (Or.inl rfl) rfl) (xo_0 dX11_rightLines_88 rfl trivial (xo_0 dX11_rightLines_90 rfl trivial (xo_0 dX11_rightLines_91 rfl rfl (xo_0 dX11_rightLines_94 rfl trivial (xo_1 dX11_rightLines_95 rfl (xm_fg_of (Or.inl q1986) (by decide) rfl (by decide) rfl rfl (Or.inl rfl) rfl) (xo_0 dX11_rightLines_98 rfl trivial (xo_0 dX11_rightLines_100 rfl trivial (xo_0 dX11_rightLines_101 rfl trivial (xo_0 dX11_rightLines_102 rfl trivial (xo_0 dX11_rightLines_103 rfl trivial (xo_0 dX11_rightLines_104 rfl rfl (xo_0 dX11_rightLines_107 rfl trivial (xo_1 dX11_rightLines_108 rfl (xm_fg_of (Or.inl q1995) (by decide) rfl (by decide) rfl rfl (Or.inl rfl) rfl) (xo_0 dX11_rightLines_111 rfl trivial (xo_0 dX11_rightLines_112 rfl trivial (xo_1 dX11_rightLines_113 rfl (xm_fg_of (Or.inl q1986) (by decide) rfl (by decide) rfl rfl (Or.inl rfl) rfl) (xo_0 dX11_rightLines_116 rfl trivial (xo_0 dX11_rightLines_118 rfl trivial (xo_0 dX11_rightLines_119 rfl trivial (xo_0 dX11_rightLines_120 rfl trivial (xo_0 dX11_rightLines_121 rfl trivial (xo_0 dX11_rightLines_122 rfl trivial (xo_0 dX11_rightLines_123 rfl trivial (xo_1 dX11_rightLines_124 rfl (xm_fg_of (Or.inl q1986) (by decide) rfl (by decide) rfl rfl (Or.inl rfl) rfl) (xo_0 dX11_rightLines_127 rfl trivial (xo_0 dX11_rightLines_129 rfl trivial (xo_0 dX11_rightLines_130 rfl trivial (xo_0 dX11_rightLines_131 rfl trivial (xo_c rfl (cv_X11_has hI dX11_rightLines_132 (Or.inl q1945) (by decide)) (xo_0 dX11_rightLines_135 rfl rfl (xo_n)))))))))))))))))))))))))))))))))))))))
theorem oX11_rightLines_138 {Iv : xI} (hI : xm_good Iv)  : xm_okb Iv RX11 cX11_rightLines false 7 lX11_rightLines bX11_rightLines_138 138 := xo_0 dX11_rightLines_138 rfl trivial (xo_0 dX11_rightLines_139 rfl rfl (xo_n))
theorem oX11_rightLines_142 {Iv : xI} (hI : xm_good Iv)  : xm_okb Iv RX11 cX11_rightLines false 7 lX11_rightLines bX11_rightLines_142 142 := xo_0 dX11_rightLines_142 rfl trivial (xo_n)
theorem oX11_rightLines_143 {Iv : xI} (hI : xm_good Iv)  : xm_okb Iv RX11 cX11_rightLines false 7 lX11_rightLines bX11_rightLines_143 143 := xo_0 dX11_rightLines_143 rfl trivial (xo_0 dX11_rightLines_144 rfl trivial (xo_0 dX11_rightLines_147 rfl rfl (xo_n)))
theorem oX11_rightLines_150 {Iv : xI} (hI : xm_good Iv)  : xm_okb Iv RX11 cX11_rightLines false 7 lX11_rightLines bX11_rightLines_150 150 := xo_0 dX11_rightLines_150 rfl trivial (xo_0 dX11_rightLines_153 rfl rfl (xo_n))
theorem oX11_rightLines_156 {Iv : xI} (hI : xm_good Iv)  : xm_okb Iv RX11 cX11_rightLines false 7 lX11_rightLines bX11_rightLines_156 156 := xo_0 dX11_rightLines_156 rfl trivial (xo_0 dX11_rightLines_157 rfl trivial (xo_0 dX11_rightLines_158 rfl (xm_fg_of (Or.inl q1996) (by decide) rfl (by decide) rfl rfl (Or.inl rfl) rfl) (xo_0 dX11_rightLines_161 rfl rfl (xo_0 dX11_rightLines_164 rfl trivial (xo_1 dX11_rightLines_165 rfl (xm_fg_of (Or.inl q2009) (by decide) rfl (by decide) rfl rfl (Or.inl rfl) rfl) (xo_0 dX11_rightLines_168 rfl trivial (xo_0 dX11_rightLines_169 rfl trivial (xo_0 dX11_rightLines_170 rfl rfl (xo_0 dX11_rightLines_173 rfl trivial (xo_0 dX11_rightLines_176 rfl rfl (xo_n)))))))))))
theorem oX11_rightLines_179 {Iv : xI} (hI : xm_good Iv)  : xm_okb Iv RX11 cX11_rightLines false 7 lX11_rightLines bX11_rightLines_179 179 := xo_0 dX11_rightLines_179 rfl trivial (xo_0 dX11_rightLines_180 rfl trivial (xo_n))
theorem oX11_rightLines {Iv : xI} (hI : xm_good Iv)  : ∀ q ∈ kX11_rightLines, xm_okb Iv RX11 cX11_rightLines false 7 lX11_rightLines q.2 q.1 := by
  intro q hq
  simp only [List.mem_cons, List.not_mem_nil, or_false] at hq
  rcases hq with rfl | rfl | rfl | rfl | rfl | rfl | rfl | rfl | rfl | rfl | rfl
  · exact oX11_rightLines_0 hI  
  · exact oX11_rightLines_6 hI  
  · exact oX11_rightLines_40 hI  
  · exact oX11_rightLines_53 hI  
  · exact oX11_rightLines_69 hI  
  · exact oX11_rightLines_138 hI  
  · exact oX11_rightLines_142 hI  
  · exact oX11_rightLines_143 hI  
  · exact oX11_rightLines_150 hI  
  · exact oX11_rightLines_156 hI  
  · exact oX11_rightLines_179 hI  
def S_X11_rightLines : xS := tU fun as I Q => as = [.ref 0] ∧ t_good I ∧ ∀ J, t_sp I J → J 0 0 = I 0 0 → Q (some (.int (nI (g_right (tK I) (tG I))))) J
theorem body_X11_rightLines : xm_Body 5 0 0 0 [] lX11_rightLines kX11_rightLines S_X11_rightLines := by
  intro X avs w Q QX hX0 hS
  have hG := xm_go [] hX0
  have hX := xm_go [6,53,69,156] hX0
  clear hX0
  obtain ⟨I, rfl, rfl, hg, hQ⟩ := hS
  have hll := hg.2.2.2.1
  obtain ⟨hl41, hl12⟩ := id hll
  obtain ⟨hn, h9, hm, h8, -⟩ := id hg.1
  have f54 : t_free 54 := by unfold t_free; omega
  have sp54 : ∀ (M : tI) (k : Nat) (v : Int32), t_sp I M → t_sp I (xm_u2 M 54 k v) := fun M k v hM => ⟨fun b hb hf => by
    rw [← hM.1 b hb hf]
    exact funext fun j => xm_u2_ne (show b ≠ 54 from fun e => hf (e.symm ▸ f54)) j, fun j h1 h2 h3 => by
    rw [xm_u2_ne (by decide)]
    exact hM.2 j h1 h2 h3⟩
  have line : ∀ (M : tI), t_sp I M → ∀ k, k < t_l I → M (600 + k) = I (600 + k) := fun M hM k hk => hM.1 _ (by omega) (t_nf (by omega))
  have e41 : ∀ (M : tI), t_sp I M → M 0 41 = nI (t_l I) := fun M hM => by rw [hM.2 41 (by decide) (by unfold t_scf; omega) (by decide)]; exact hl41
  have l3 : ∀ k, k ≤ t_l I → ∀ M L y o, t_sp I M → M 0 0 = I 0 0 → (o = none ∨ ∃ z, o = some (.int z)) → (∀ j, j < t_l I → M 54 j = t_b (g_lineok (tK I) (tG I) j)) → g_pre (g_lineok (tK I) (tG I)) (t_l I - k) k = g_right (tK I) (tG I) → X 156 [some (.ref 0), some (.int L), some (.int (nI k)), some (.int y), o] [] (tW M) 0 0 := by
    refine t_for fun k h1 ih M L y o hM h0 ho hR hP => ?_
    have m41 := e41 M hM
    rcases ho with rfl | ⟨z, rfl⟩
    all_goals
      refine hG _ _ _ _ _ _ ?_
      (conv => whnf)
      repeat' (first
        | ((with_reducible refine @And.intro (vp_in _ _) _ ?_ ?_); (· (first | with_reducible assumption | ((with_reducible refine t_vin ?_); decide) | ((with_reducible refine vp_in_nI ?_ ?_) <;> first | omega | decide) | (simp (disch := omega) only [xl_n, xl_m, nI_dec, nI_sb, nI_add, pk_mul]; (with_reducible refine vp_in_nI ?_ ?_) <;> first | omega | decide))); (conv => whnf))
        | (refine And.intro (by first | with_reducible assumption | exact (show tL _ = _ from rfl) | decide) ?_; (conv => whnf))
        | ((with_reducible refine @And.intro (_ = _) _ ?_ ?_); (· rfl); (conv => whnf))
        | ((with_reducible refine @And.intro (@LE.le Nat _ _ _) _ ?_ ?_); (· (first | exact Nat.zero_le _ | exact Nat.le_of_ble_eq_true rfl | omega)); (conv => whnf))
        | ((with_reducible refine @And.intro (@LT.lt Nat _ _ _) _ ?_ ?_); (· omega); (conv => whnf))
        | ((with_reducible refine @And.intro (∃ _, _ = _) _ ?_ ?_); (· exact ⟨_, rfl⟩); (conv => whnf))
        | ((with_reducible refine @And.intro (_ ∨ _) _ ?_ ?_); (· (first | exact Or.inl rfl | exact Or.inr rfl | exact t_b01 _ | assumption)); (conv => whnf))
        | ((with_reducible refine @And.intro (¬ (_ = _)) _ ?_ ?_); (· first | assumption | (with_reducible assumption)); (conv => whnf))
        | (refine hX _ _ _ _ _ _ ?_; (conv => whnf); fail_if_success show False)
        | (rw [t_si]; (conv => whnf))
        | (refine ⟨_, rfl, ?_⟩; (conv => whnf))
        | (refine ⟨_, _, rfl, ?_⟩; (conv => whnf))
        | (refine ⟨_, _, _, rfl, ?_⟩; (conv => whnf))
        | (refine ⟨_, _, _, _, rfl, ?_⟩; (conv => whnf))
        | fail)
      refine And.intro (fun c => ?_) (fun c => ?_) <;> (conv => whnf)
      · repeat' (first
          | ((with_reducible refine @And.intro (vp_in _ _) _ ?_ ?_); (· (first | with_reducible assumption | ((with_reducible refine t_vin ?_); decide) | ((with_reducible refine vp_in_nI ?_ ?_) <;> first | omega | decide) | (simp (disch := omega) only [xl_n, xl_m, nI_dec, nI_sb, nI_add, pk_mul]; (with_reducible refine vp_in_nI ?_ ?_) <;> first | omega | decide))); (conv => whnf))
          | (refine And.intro (by first | with_reducible assumption | exact (show tL _ = _ from rfl) | decide) ?_; (conv => whnf))
          | ((with_reducible refine @And.intro (_ = _) _ ?_ ?_); (· rfl); (conv => whnf))
          | ((with_reducible refine @And.intro (@LE.le Nat _ _ _) _ ?_ ?_); (· (first | exact Nat.zero_le _ | exact Nat.le_of_ble_eq_true rfl | omega)); (conv => whnf))
          | ((with_reducible refine @And.intro (@LT.lt Nat _ _ _) _ ?_ ?_); (· omega); (conv => whnf))
          | ((with_reducible refine @And.intro (∃ _, _ = _) _ ?_ ?_); (· exact ⟨_, rfl⟩); (conv => whnf))
          | ((with_reducible refine @And.intro (_ ∨ _) _ ?_ ?_); (· (first | exact Or.inl rfl | exact Or.inr rfl | exact t_b01 _ | assumption)); (conv => whnf))
          | ((with_reducible refine @And.intro (¬ (_ = _)) _ ?_ ?_); (· first | assumption | (with_reducible assumption)); (conv => whnf))
          | (refine hX _ _ _ _ _ _ ?_; (conv => whnf); fail_if_success show False)
          | (rw [t_si]; (conv => whnf))
          | (refine ⟨_, rfl, ?_⟩; (conv => whnf))
          | (refine ⟨_, _, rfl, ?_⟩; (conv => whnf))
          | (refine ⟨_, _, _, rfl, ?_⟩; (conv => whnf))
          | (refine ⟨_, _, _, _, rfl, ?_⟩; (conv => whnf))
          | (refine And.intro (fun c => ?_) (fun c => ?_) <;> (first | (exact absurd c (by decide +kernel)) | (conv => whnf)))
          | fail)
        have : k = t_l I := Nat.le_antisymm h1 (t_kge m41 c (by omega) (by omega))
        subst this
        rw [Nat.sub_self] at hP
        have hP : t_l I = g_right (tK I) (tG I) := hP
        exact t_q (hQ M hM h0) (by rw [← hP])
      · have hk : k < t_l I := t_klt m41 c (by omega)
        have hv := hR k hk
        rw [show t_l I - k = (t_l I - (k + 1)) + 1 by omega, g_pre_s] at hP
        have nx := ih (k + 1) (by omega) (by omega) M L y
        clear ih
        repeat' (first
          | ((with_reducible refine @And.intro (vp_in _ _) _ ?_ ?_); (· (first | with_reducible assumption | ((with_reducible refine t_vin ?_); decide) | ((with_reducible refine vp_in_nI ?_ ?_) <;> first | omega | decide) | (simp (disch := omega) only [xl_n, xl_m, nI_dec, nI_sb, nI_add, pk_mul]; (with_reducible refine vp_in_nI ?_ ?_) <;> first | omega | decide))); (conv => whnf))
          | (refine And.intro (by first | with_reducible assumption | exact (show tL _ = _ from rfl) | decide) ?_; (conv => whnf))
          | ((with_reducible refine @And.intro (_ = _) _ ?_ ?_); (· rfl); (conv => whnf))
          | ((with_reducible refine @And.intro (@LE.le Nat _ _ _) _ ?_ ?_); (· (first | exact Nat.zero_le _ | exact Nat.le_of_ble_eq_true rfl | omega)); (conv => whnf))
          | ((with_reducible refine @And.intro (@LT.lt Nat _ _ _) _ ?_ ?_); (· omega); (conv => whnf))
          | ((with_reducible refine @And.intro (∃ _, _ = _) _ ?_ ?_); (· exact ⟨_, rfl⟩); (conv => whnf))
          | ((with_reducible refine @And.intro (_ ∨ _) _ ?_ ?_); (· (first | exact Or.inl rfl | exact Or.inr rfl | exact t_b01 _ | assumption)); (conv => whnf))
          | ((with_reducible refine @And.intro (¬ (_ = _)) _ ?_ ?_); (· first | assumption | (with_reducible assumption)); (conv => whnf))
          | (refine hX _ _ _ _ _ _ ?_; (conv => whnf); fail_if_success show False)
          | (rw [t_si]; (conv => whnf))
          | (refine ⟨_, rfl, ?_⟩; (conv => whnf))
          | (refine ⟨_, _, rfl, ?_⟩; (conv => whnf))
          | (refine ⟨_, _, _, rfl, ?_⟩; (conv => whnf))
          | (refine ⟨_, _, _, _, rfl, ?_⟩; (conv => whnf))
          | (refine And.intro (fun c => ?_) (fun c => ?_) <;> (first | (exact absurd c (by decide +kernel)) | (conv => whnf)))
          | fail)
        · have c' : M 54 (nI k).toNatClampNeg = 0 := by assumption
          rw [nI_clamp (by omega), hv, t_b0] at c'
          rw [c', if_neg (by decide)] at hP
          exact t_q (hQ M hM h0) (by rw [← hP])
        · have c' : ¬ M 54 (nI k).toNatClampNeg = 0 := by assumption
          rw [nI_clamp (by omega), hv, t_b0, Bool.not_eq_false] at c'
          rw [if_pos c'] at hP
          clear hX hG hQ
          simp (disch := omega) only [xl_n, xl_m, nI_dec, nI_sb, xl_0, xl_1, tW_i, t_bn0, t_bn1, Classical.not_not, t_lt, nI_add, nI_1, pk_mul, nI_clamp, t_si, nI_eq, nI_leI, nM_ne, nM_ne, xm_set, xm_lv0, xm_psh] at *
          exact nx _ hM h0 (by first | exact Or.inl rfl | exact Or.inr ⟨_, rfl⟩) hR hP
  have l2 : ∀ y, y ≤ g_lst (tG I) (t_l I) → ∀ M o, t_sp I M → M 0 0 = I 0 0 → (o = none ∨ ∃ z, o = some (.int z)) → tA M 40 = g_gos (tK I) y (tA I 38) → (∀ j, j < t_l I → M 54 j = t_b (g_seen (tK I) (tG I) y j)) → X 53 [some (.ref 0), some (.int (nI (g_lst (tG I) (t_l I)))), some (.int (nI 0)), some (.int (nI (y + 1))), o] [] (tW M) 0 0 := by
    have h60 : g_lst (tG I) (t_l I) ≤ 60 := g_lst_le (fun k hk => (t_line hg hk).2.2.1) (Nat.le_refl _)
    refine t_for fun y h1 ih M o hM h0 ho hA hR => ?_
    have nx := ih (y + 1) (by omega)
    clear ih
    have lins : ∀ k, k ≤ t_l I → ∀ M, y + 1 ≤ g_lst (tG I) (t_l I) → t_sp I M → M 0 0 = I 0 0 → tA M 40 = g_gos (tK I) (y + 1) (tA I 38) → (∀ j, j < k → M 54 j = t_b (g_seen (tK I) (tG I) (y + 1) j)) → (∀ j, k ≤ j → j < t_l I → M 54 j = t_b (g_seen (tK I) (tG I) y j)) → X 69 [some (.ref 0), some (.int (nI (g_lst (tG I) (t_l I)))), some (.int (nI 0)), some (.int (nI (y + 1))), some (.int (nI k))] [] (tW M) 0 0 := by
      refine t_for fun k h1 ih M hy hM h0 hA hlo hhi => ?_
      have m41 := e41 M hM
      refine hG _ _ _ _ _ _ ?_
      (conv => whnf)
      repeat' (first
        | ((with_reducible refine @And.intro (vp_in _ _) _ ?_ ?_); (· (first | with_reducible assumption | ((with_reducible refine t_vin ?_); decide) | ((with_reducible refine vp_in_nI ?_ ?_) <;> first | omega | decide) | (simp (disch := omega) only [xl_n, xl_m, nI_dec, nI_sb, nI_add, pk_mul]; (with_reducible refine vp_in_nI ?_ ?_) <;> first | omega | decide))); (conv => whnf))
        | (refine And.intro (by first | with_reducible assumption | exact (show tL _ = _ from rfl) | decide) ?_; (conv => whnf))
        | ((with_reducible refine @And.intro (_ = _) _ ?_ ?_); (· rfl); (conv => whnf))
        | ((with_reducible refine @And.intro (@LE.le Nat _ _ _) _ ?_ ?_); (· (first | exact Nat.zero_le _ | exact Nat.le_of_ble_eq_true rfl | omega)); (conv => whnf))
        | ((with_reducible refine @And.intro (@LT.lt Nat _ _ _) _ ?_ ?_); (· omega); (conv => whnf))
        | ((with_reducible refine @And.intro (∃ _, _ = _) _ ?_ ?_); (· exact ⟨_, rfl⟩); (conv => whnf))
        | ((with_reducible refine @And.intro (_ ∨ _) _ ?_ ?_); (· (first | exact Or.inl rfl | exact Or.inr rfl | exact t_b01 _ | assumption)); (conv => whnf))
        | ((with_reducible refine @And.intro (¬ (_ = _)) _ ?_ ?_); (· first | assumption | (with_reducible assumption)); (conv => whnf))
        | (refine hX _ _ _ _ _ _ ?_; (conv => whnf); fail_if_success show False)
        | (rw [t_si]; (conv => whnf))
        | (refine ⟨_, rfl, ?_⟩; (conv => whnf))
        | (refine ⟨_, _, rfl, ?_⟩; (conv => whnf))
        | (refine ⟨_, _, _, rfl, ?_⟩; (conv => whnf))
        | (refine ⟨_, _, _, _, rfl, ?_⟩; (conv => whnf))
        | fail)
      refine And.intro (fun c => ?_) (fun c => ?_) <;> (conv => whnf)
      · have : k = t_l I := Nat.le_antisymm h1 (t_kge m41 c (by omega) (by omega))
        subst this
        have := nx hy M (some (.int (nI (t_l I)))) hM h0 (Or.inr ⟨_, rfl⟩) hA hlo
        clear ih nx
        repeat' (first
          | ((with_reducible refine @And.intro (vp_in _ _) _ ?_ ?_); (· (first | with_reducible assumption | ((with_reducible refine t_vin ?_); decide) | ((with_reducible refine vp_in_nI ?_ ?_) <;> first | omega | decide) | (simp (disch := omega) only [xl_n, xl_m, nI_dec, nI_sb, nI_add, pk_mul]; (with_reducible refine vp_in_nI ?_ ?_) <;> first | omega | decide))); (conv => whnf))
          | (refine And.intro (by first | with_reducible assumption | exact (show tL _ = _ from rfl) | decide) ?_; (conv => whnf))
          | ((with_reducible refine @And.intro (_ = _) _ ?_ ?_); (· rfl); (conv => whnf))
          | ((with_reducible refine @And.intro (@LE.le Nat _ _ _) _ ?_ ?_); (· (first | exact Nat.zero_le _ | exact Nat.le_of_ble_eq_true rfl | omega)); (conv => whnf))
          | ((with_reducible refine @And.intro (@LT.lt Nat _ _ _) _ ?_ ?_); (· omega); (conv => whnf))
          | ((with_reducible refine @And.intro (∃ _, _ = _) _ ?_ ?_); (· exact ⟨_, rfl⟩); (conv => whnf))
          | ((with_reducible refine @And.intro (_ ∨ _) _ ?_ ?_); (· (first | exact Or.inl rfl | exact Or.inr rfl | exact t_b01 _ | assumption)); (conv => whnf))
          | ((with_reducible refine @And.intro (¬ (_ = _)) _ ?_ ?_); (· first | assumption | (with_reducible assumption)); (conv => whnf))
          | (refine hX _ _ _ _ _ _ ?_; (conv => whnf); fail_if_success show False)
          | (rw [t_si]; (conv => whnf))
          | (refine ⟨_, rfl, ?_⟩; (conv => whnf))
          | (refine ⟨_, _, rfl, ?_⟩; (conv => whnf))
          | (refine ⟨_, _, _, rfl, ?_⟩; (conv => whnf))
          | (refine ⟨_, _, _, _, rfl, ?_⟩; (conv => whnf))
          | (refine And.intro (fun c => ?_) (fun c => ?_) <;> (first | (exact absurd c (by decide +kernel)) | (conv => whnf)))
          | fail)
        clear hX hG hQ
        simp (disch := omega) only [xl_n, xl_m, nI_dec, nI_sb, xl_0, xl_1, tW_i, t_bn0, t_bn1, Classical.not_not, t_lt, nI_add, nI_1, pk_mul, nI_clamp, t_si, nI_eq, nI_leI, nM_ne, nM_ne, xm_set, xm_lv0, xm_psh] at *
        exact this
      · have hk : k < t_l I := t_klt m41 c (by omega)
        obtain ⟨q0, q1, q60, p, h, hp, hh, qp, qh, qok⟩ := t_line hg hk
        have hl := line M hM k hk
        have hv := hhi k (Nat.le_refl _) hk
        have step : ∀ v, v = t_b (g_seen (tK I) (tG I) (y + 1) k) → X 69 [some (.ref 0), some (.int (nI (g_lst (tG I) (t_l I)))), some (.int (nI 0)), some (.int (nI (y + 1))), some (.int (nI (k + 1)))] [] (tW (xm_u2 M 54 k v)) 0 0 := fun v hv => by
          refine ih (k + 1) (by omega) (by omega) _ hy (sp54 M k v hM) (by rw [xm_u2_ne (by decide)]; exact h0) (by rw [tA_u (by decide)]; exact hA) (fun j hj => ?_) (fun j hj hj2 => ?_)
          · rw [xm_u2_at]
            by_cases e : j = k
            · rw [if_pos e, e, hv]
            · rw [if_neg e]
              exact hlo j (by omega)
          · rw [xm_u2_at, if_neg (by omega)]
            exact hhi j (by omega) hj2
        have es : g_seen (tK I) (tG I) (y + 1) k = (g_seen (tK I) (tG I) y k || (decide (g_lny (tG I) k = y + 1) && t_has (gw (tA M 40) p) h)) := by
          unfold g_seen
          by_cases e : g_lny (tG I) k = y + 1
          · rw [qok, e, hA]
            simp
          · have : (g_lny (tG I) k ≤ y + 1) = (g_lny (tG I) k ≤ y) := by apply propext; omega
            simp [e, this]
        have ey : M (600 + k) 0 = nI (g_lny (tG I) k) := by rw [hl]; exact q0
        have ep : M (600 + k) 1 = nI p := by rw [hl]; exact qp
        have eh : M (600 + k) 2 = nI h := by rw [hl]; exact qh
        clear ih nx
        repeat' (first
          | ((with_reducible refine @And.intro (vp_in _ _) _ ?_ ?_); (· (first | with_reducible assumption | ((with_reducible refine t_vin ?_); decide) | ((with_reducible refine vp_in_nI ?_ ?_) <;> first | omega | decide) | (simp (disch := omega) only [xl_n, xl_m, nI_dec, nI_sb, nI_add, pk_mul]; (with_reducible refine vp_in_nI ?_ ?_) <;> first | omega | decide))); (conv => whnf))
          | (refine And.intro (by first | with_reducible assumption | exact (show tL _ = _ from rfl) | decide) ?_; (conv => whnf))
          | ((with_reducible refine @And.intro (_ = _) _ ?_ ?_); (· rfl); (conv => whnf))
          | ((with_reducible refine @And.intro (@LE.le Nat _ _ _) _ ?_ ?_); (· (first | exact Nat.zero_le _ | exact Nat.le_of_ble_eq_true rfl | omega)); (conv => whnf))
          | ((with_reducible refine @And.intro (@LT.lt Nat _ _ _) _ ?_ ?_); (· omega); (conv => whnf))
          | ((with_reducible refine @And.intro (∃ _, _ = _) _ ?_ ?_); (· exact ⟨_, rfl⟩); (conv => whnf))
          | ((with_reducible refine @And.intro (_ ∨ _) _ ?_ ?_); (· (first | exact Or.inl rfl | exact Or.inr rfl | exact t_b01 _ | assumption)); (conv => whnf))
          | ((with_reducible refine @And.intro (¬ (_ = _)) _ ?_ ?_); (· first | assumption | (with_reducible assumption)); (conv => whnf))
          | (refine hX _ _ _ _ _ _ ?_; (conv => whnf); fail_if_success show False)
          | (rw [t_si]; (conv => whnf))
          | (refine ⟨_, rfl, ?_⟩; (conv => whnf))
          | (refine ⟨_, _, rfl, ?_⟩; (conv => whnf))
          | (refine ⟨_, _, _, rfl, ?_⟩; (conv => whnf))
          | (refine ⟨_, _, _, _, rfl, ?_⟩; (conv => whnf))
          | (rw [t_l600 (by first | with_reducible assumption | omega | exact vp_lt (by assumption) | (rw [nI_clamp (by omega)]; omega))]; (conv => whnf))
          | (refine And.intro (fun c => ?_) (fun c => ?_) <;> (first | (exact absurd c (by decide +kernel)) | (conv => whnf)))
          | fail)
        · have c' : ¬ M 54 (nI k).toNatClampNeg = 0 := by assumption
          rw [nI_clamp (by omega), hv, t_b0, Bool.not_eq_false] at c'
          clear hX hG hQ
          simp (disch := omega) only [xl_n, xl_m, nI_dec, nI_sb, xl_0, xl_1, tW_i, t_bn0, t_bn1, Classical.not_not, t_lt, nI_add, nI_1, pk_mul, nI_clamp, t_si, nI_eq, nI_leI, nM_ne, nM_ne, xm_set, xm_lv0, xm_psh] at *
          exact step _ (by rw [t_vp1, es, c', Bool.true_or])
        · have c1 : M 54 (nI k).toNatClampNeg = 0 := Classical.not_not.mp (by assumption)
          have c2 : ¬ M (600 + (nI k).toNatClampNeg) (Int32.ofInt 0).toNatClampNeg = nI (y + 1) := by assumption
          rw [nI_clamp (by omega), hv, t_b0] at c1
          rw [nI_clamp (by omega), xl_n.1, show (nI 0).toNatClampNeg = 0 from rfl, ey, nI_eq (by omega) (by omega)] at c2
          clear hX hG hQ
          simp (disch := omega) only [xl_n, xl_m, nI_dec, nI_sb, xl_0, xl_1, tW_i, t_bn0, t_bn1, Classical.not_not, t_lt, nI_add, nI_1, pk_mul, nI_clamp, t_si, nI_eq, nI_leI, nM_ne, nM_ne, xm_set, xm_lv0, xm_psh] at *
          exact step _ (by rw [t_vp0, es, c1, decide_eq_false c2]; rfl)
        · have c1 : M 54 (nI k).toNatClampNeg = 0 := Classical.not_not.mp (by assumption)
          have c2 : M (600 + (nI k).toNatClampNeg) (Int32.ofInt 0).toNatClampNeg = nI (y + 1) := Classical.not_not.mp (by assumption)
          rw [nI_clamp (by omega), hv, t_b0] at c1
          rw [nI_clamp (by omega), xl_n.1, show (nI 0).toNatClampNeg = 0 from rfl, ey, nI_eq (by omega) (by omega)] at c2
          simp (disch := omega) only [xl_n, xl_m, nI_dec, nI_sb, xl_0, xl_1, tW_i, t_bn0, t_bn1, Classical.not_not, t_lt, nI_add, nI_1, pk_mul, nI_clamp, t_si, nI_eq, nI_leI, nM_ne, nM_ne, xm_u2_ne, xm_u2_at, reduceIte, tK_u, tA_u, Nat.reduceEqDiff, ep, eh]
          repeat' (first
            | ((with_reducible refine @And.intro (vp_in _ _) _ ?_ ?_); (· (first | with_reducible assumption | ((with_reducible refine t_vin ?_); decide) | ((with_reducible refine vp_in_nI ?_ ?_) <;> first | omega | decide) | (simp (disch := omega) only [xl_n, xl_m, nI_dec, nI_sb, nI_add, pk_mul]; (with_reducible refine vp_in_nI ?_ ?_) <;> first | omega | decide))); (conv => whnf))
            | (refine And.intro (by first | with_reducible assumption | exact (show tL _ = _ from rfl) | decide) ?_; (conv => whnf))
            | ((with_reducible refine @And.intro (_ = _) _ ?_ ?_); (· rfl); (conv => whnf))
            | ((with_reducible refine @And.intro (@LE.le Nat _ _ _) _ ?_ ?_); (· (first | exact Nat.zero_le _ | exact Nat.le_of_ble_eq_true rfl | omega)); (conv => whnf))
            | ((with_reducible refine @And.intro (@LT.lt Nat _ _ _) _ ?_ ?_); (· omega); (conv => whnf))
            | ((with_reducible refine @And.intro (∃ _, _ = _) _ ?_ ?_); (· exact ⟨_, rfl⟩); (conv => whnf))
            | ((with_reducible refine @And.intro (_ ∨ _) _ ?_ ?_); (· (first | exact Or.inl rfl | exact Or.inr rfl | exact t_b01 _ | assumption)); (conv => whnf))
            | ((with_reducible refine @And.intro (¬ (_ = _)) _ ?_ ?_); (· first | assumption | (with_reducible assumption)); (conv => whnf))
            | (refine hX _ _ _ _ _ _ ?_; (conv => whnf); fail_if_success show False)
            | (rw [t_si]; (conv => whnf))
            | (refine ⟨_, rfl, ?_⟩; (conv => whnf))
            | (refine ⟨_, _, rfl, ?_⟩; (conv => whnf))
            | (refine ⟨_, _, _, rfl, ?_⟩; (conv => whnf))
            | (refine ⟨_, _, _, _, rfl, ?_⟩; (conv => whnf))
            | (rw [t_l600 (by first | with_reducible assumption | omega | exact vp_lt (by assumption) | (rw [nI_clamp (by omega)]; omega))]; (conv => whnf))
            | (refine And.intro (fun c => ?_) (fun c => ?_) <;> (first | (exact absurd c (by decide +kernel)) | (conv => whnf)))
            | fail)
          have eh' : xm_fld (tW M) (600 + (nI k).toNatClampNeg) (Int32.ofInt 2).toNatClampNeg 0 = .int (nI h) := by
            show Value.int (M (600 + (nI k).toNatClampNeg) (Int32.ofInt 2).toNatClampNeg) = _
            rw [nI_clamp (by omega)]
            exact congrArg Value.int eh
          have eg : M 40 (1 + p) = gw (tA M 40) p := (tA_gw (by omega)).symm
          repeat' (first
            | ((with_reducible refine @And.intro (vp_in _ _) _ ?_ ?_); (· (first | with_reducible assumption | ((with_reducible refine t_vin ?_); decide) | ((with_reducible refine vp_in_nI ?_ ?_) <;> first | omega | decide) | (simp (disch := omega) only [xl_n, xl_m, nI_dec, nI_sb, nI_add, pk_mul]; (with_reducible refine vp_in_nI ?_ ?_) <;> first | omega | decide))); (conv => whnf))
            | (refine And.intro (by first | with_reducible assumption | exact (show tL _ = _ from rfl) | decide) ?_; (conv => whnf))
            | ((with_reducible refine @And.intro (_ = _) _ ?_ ?_); (· rfl); (conv => whnf))
            | ((with_reducible refine @And.intro (@LE.le Nat _ _ _) _ ?_ ?_); (· (first | exact Nat.zero_le _ | exact Nat.le_of_ble_eq_true rfl | omega)); (conv => whnf))
            | ((with_reducible refine @And.intro (@LT.lt Nat _ _ _) _ ?_ ?_); (· omega); (conv => whnf))
            | ((with_reducible refine @And.intro (∃ _, _ = _) _ ?_ ?_); (· exact ⟨_, rfl⟩); (conv => whnf))
            | ((with_reducible refine @And.intro (_ ∨ _) _ ?_ ?_); (· (first | exact Or.inl rfl | exact Or.inr rfl | exact t_b01 _ | assumption)); (conv => whnf))
            | ((with_reducible refine @And.intro (¬ (_ = _)) _ ?_ ?_); (· first | assumption | (with_reducible assumption)); (conv => whnf))
            | (refine hX _ _ _ _ _ _ ?_; (conv => whnf); fail_if_success show False)
            | (rw [t_si]; (conv => whnf))
            | (refine ⟨_, rfl, ?_⟩; (conv => whnf))
            | (refine ⟨_, _, rfl, ?_⟩; (conv => whnf))
            | (refine ⟨_, _, _, rfl, ?_⟩; (conv => whnf))
            | (refine ⟨_, _, _, _, rfl, ?_⟩; (conv => whnf))
            | (rw [t_l600 (by first | with_reducible assumption | omega | exact vp_lt (by assumption) | (rw [nI_clamp (by omega)]; omega))]; (conv => whnf))
            | (rw [eh']; (conv => whnf))
            | (refine And.intro (fun c => ?_) (fun c => ?_) <;> (first | (exact absurd c (by decide +kernel)) | (conv => whnf)))
            | fail)
          · have c3 : t_b (t_has (M 40 (1 + p)) h) = 0 := by assumption
            rw [t_b0, eg] at c3
            clear hX hG hQ
            simp (disch := omega) only [xl_n, xl_m, nI_dec, nI_sb, xl_0, xl_1, tW_i, t_bn0, t_bn1, Classical.not_not, t_lt, nI_add, nI_1, pk_mul, nI_clamp, t_si, nI_eq, nI_leI, nM_ne, nM_ne, xm_set, xm_lv0, xm_psh] at *
            exact step _ (by rw [t_vp0, es, c1, decide_eq_true c2, c3]; rfl)
          · have c3 : ¬ t_b (t_has (M 40 (1 + p)) h) = 0 := by assumption
            rw [t_b0, Bool.not_eq_false, eg] at c3
            clear hX hG hQ
            simp (disch := omega) only [xl_n, xl_m, nI_dec, nI_sb, xl_0, xl_1, tW_i, t_bn0, t_bn1, Classical.not_not, t_lt, nI_add, nI_1, pk_mul, nI_clamp, t_si, nI_eq, nI_leI, nM_ne, nM_ne, xm_set, xm_lv0, xm_psh] at *
            exact step _ (by rw [t_vp1, es, c1, decide_eq_true c2, c3]; rfl)
    rcases ho with rfl | ⟨z, rfl⟩
    all_goals
      refine hG _ _ _ _ _ _ ?_
      (conv => whnf)
      repeat' (first
        | ((with_reducible refine @And.intro (vp_in _ _) _ ?_ ?_); (· (first | with_reducible assumption | ((with_reducible refine t_vin ?_); decide) | ((with_reducible refine vp_in_nI ?_ ?_) <;> first | omega | decide) | (simp (disch := omega) only [xl_n, xl_m, nI_dec, nI_sb, nI_add, pk_mul]; (with_reducible refine vp_in_nI ?_ ?_) <;> first | omega | decide))); (conv => whnf))
        | (refine And.intro (by first | with_reducible assumption | exact (show tL _ = _ from rfl) | decide) ?_; (conv => whnf))
        | ((with_reducible refine @And.intro (_ = _) _ ?_ ?_); (· rfl); (conv => whnf))
        | ((with_reducible refine @And.intro (@LE.le Nat _ _ _) _ ?_ ?_); (· (first | exact Nat.zero_le _ | exact Nat.le_of_ble_eq_true rfl | omega)); (conv => whnf))
        | ((with_reducible refine @And.intro (@LT.lt Nat _ _ _) _ ?_ ?_); (· omega); (conv => whnf))
        | ((with_reducible refine @And.intro (∃ _, _ = _) _ ?_ ?_); (· exact ⟨_, rfl⟩); (conv => whnf))
        | ((with_reducible refine @And.intro (_ ∨ _) _ ?_ ?_); (· (first | exact Or.inl rfl | exact Or.inr rfl | exact t_b01 _ | assumption)); (conv => whnf))
        | ((with_reducible refine @And.intro (¬ (_ = _)) _ ?_ ?_); (· first | assumption | (with_reducible assumption)); (conv => whnf))
        | (refine hX _ _ _ _ _ _ ?_; (conv => whnf); fail_if_success show False)
        | (rw [t_si]; (conv => whnf))
        | (refine ⟨_, rfl, ?_⟩; (conv => whnf))
        | (refine ⟨_, _, rfl, ?_⟩; (conv => whnf))
        | (refine ⟨_, _, _, rfl, ?_⟩; (conv => whnf))
        | (refine ⟨_, _, _, _, rfl, ?_⟩; (conv => whnf))
        | fail)
      refine And.intro (fun c => ?_) (fun c => ?_) <;> (conv => whnf)
      · have : y = g_lst (tG I) (t_l I) := by
          have c' : nI (g_lst (tG I) (t_l I)) < nI (y + 1) := c
          rw [nI_ltI (by omega) (by omega)] at c'
          omega
        repeat' (first
          | ((with_reducible refine @And.intro (vp_in _ _) _ ?_ ?_); (· (first | with_reducible assumption | ((with_reducible refine t_vin ?_); decide) | ((with_reducible refine vp_in_nI ?_ ?_) <;> first | omega | decide) | (simp (disch := omega) only [xl_n, xl_m, nI_dec, nI_sb, nI_add, pk_mul]; (with_reducible refine vp_in_nI ?_ ?_) <;> first | omega | decide))); (conv => whnf))
          | (refine And.intro (by first | with_reducible assumption | exact (show tL _ = _ from rfl) | decide) ?_; (conv => whnf))
          | ((with_reducible refine @And.intro (_ = _) _ ?_ ?_); (· rfl); (conv => whnf))
          | ((with_reducible refine @And.intro (@LE.le Nat _ _ _) _ ?_ ?_); (· (first | exact Nat.zero_le _ | exact Nat.le_of_ble_eq_true rfl | omega)); (conv => whnf))
          | ((with_reducible refine @And.intro (@LT.lt Nat _ _ _) _ ?_ ?_); (· omega); (conv => whnf))
          | ((with_reducible refine @And.intro (∃ _, _ = _) _ ?_ ?_); (· exact ⟨_, rfl⟩); (conv => whnf))
          | ((with_reducible refine @And.intro (_ ∨ _) _ ?_ ?_); (· (first | exact Or.inl rfl | exact Or.inr rfl | exact t_b01 _ | assumption)); (conv => whnf))
          | ((with_reducible refine @And.intro (¬ (_ = _)) _ ?_ ?_); (· first | assumption | (with_reducible assumption)); (conv => whnf))
          | (refine hX _ _ _ _ _ _ ?_; (conv => whnf); fail_if_success show False)
          | (rw [t_si]; (conv => whnf))
          | (refine ⟨_, rfl, ?_⟩; (conv => whnf))
          | (refine ⟨_, _, rfl, ?_⟩; (conv => whnf))
          | (refine ⟨_, _, _, rfl, ?_⟩; (conv => whnf))
          | (refine ⟨_, _, _, _, rfl, ?_⟩; (conv => whnf))
          | (refine And.intro (fun c => ?_) (fun c => ?_) <;> (first | (exact absurd c (by decide +kernel)) | (conv => whnf)))
          | fail)
        refine l3 0 (Nat.zero_le _) M _ _ _ hM h0 (by first | exact Or.inl rfl | exact Or.inr ⟨_, rfl⟩) (fun j hj => ?_) rfl
        rw [hR j hj]
        unfold g_seen
        rw [decide_eq_true (by rw [this]; exact g_lst_ge hj), Bool.true_and]
      · have hy : y + 1 ≤ g_lst (tG I) (t_l I) := by
          have c' : ¬ nI (g_lst (tG I) (t_l I)) < nI (y + 1) := c
          rw [nI_ltI (by omega) (by omega)] at c'
          omega
        have hgM := hM.good hg
        have hokM := hgM.1
        have hlM := hgM.2.1
        repeat' (first
          | ((with_reducible refine @And.intro (vp_in _ _) _ ?_ ?_); (· (first | with_reducible assumption | ((with_reducible refine t_vin ?_); decide) | ((with_reducible refine vp_in_nI ?_ ?_) <;> first | omega | decide) | (simp (disch := omega) only [xl_n, xl_m, nI_dec, nI_sb, nI_add, pk_mul]; (with_reducible refine vp_in_nI ?_ ?_) <;> first | omega | decide))); (conv => whnf))
          | (refine And.intro (by first | with_reducible assumption | exact (show tL _ = _ from rfl) | decide) ?_; (conv => whnf))
          | ((with_reducible refine @And.intro (_ = _) _ ?_ ?_); (· rfl); (conv => whnf))
          | ((with_reducible refine @And.intro (@LE.le Nat _ _ _) _ ?_ ?_); (· (first | exact Nat.zero_le _ | exact Nat.le_of_ble_eq_true rfl | omega)); (conv => whnf))
          | ((with_reducible refine @And.intro (@LT.lt Nat _ _ _) _ ?_ ?_); (· omega); (conv => whnf))
          | ((with_reducible refine @And.intro (∃ _, _ = _) _ ?_ ?_); (· exact ⟨_, rfl⟩); (conv => whnf))
          | ((with_reducible refine @And.intro (_ ∨ _) _ ?_ ?_); (· (first | exact Or.inl rfl | exact Or.inr rfl | exact t_b01 _ | assumption)); (conv => whnf))
          | ((with_reducible refine @And.intro (¬ (_ = _)) _ ?_ ?_); (· first | assumption | (with_reducible assumption)); (conv => whnf))
          | (refine hX _ _ _ _ _ _ ?_; (conv => whnf); fail_if_success show False)
          | (rw [t_si]; (conv => whnf))
          | (refine ⟨_, rfl, ?_⟩; (conv => whnf))
          | (refine ⟨_, _, rfl, ?_⟩; (conv => whnf))
          | (refine ⟨_, _, _, rfl, ?_⟩; (conv => whnf))
          | (refine ⟨_, _, _, _, rfl, ?_⟩; (conv => whnf))
          | (refine And.intro (fun c => ?_) (fun c => ?_) <;> (first | (exact absurd c (by decide +kernel)) | (conv => whnf)))
          | fail)
        intro L hL hE
        (conv => whnf)
        have t1 : t_sp I L := hM.tr (hL.sp t_f40)
        have t2 : L 0 0 = M 0 0 := hL.2 0 (by unfold t_scf; omega) (by decide)
        have t3 : tA L 40 = g_goes (tK I) (tA M 40) := by rw [t_go hgM.2.2.1 hE, hM.same.K hg]
        have := lins 0 (Nat.zero_le _) L hy t1 (t2.trans h0) (by rw [t3, hA]; rfl) (fun j hj => by omega) (fun j _ hj => by
          rw [hL.1 54 (by decide) (by decide) (by unfold t_scr; omega)]
          exact hR j hj)
        clear lins nx
        repeat' (first
          | ((with_reducible refine @And.intro (vp_in _ _) _ ?_ ?_); (· (first | with_reducible assumption | ((with_reducible refine t_vin ?_); decide) | ((with_reducible refine vp_in_nI ?_ ?_) <;> first | omega | decide) | (simp (disch := omega) only [xl_n, xl_m, nI_dec, nI_sb, nI_add, pk_mul]; (with_reducible refine vp_in_nI ?_ ?_) <;> first | omega | decide))); (conv => whnf))
          | (refine And.intro (by first | with_reducible assumption | exact (show tL _ = _ from rfl) | decide) ?_; (conv => whnf))
          | ((with_reducible refine @And.intro (_ = _) _ ?_ ?_); (· rfl); (conv => whnf))
          | ((with_reducible refine @And.intro (@LE.le Nat _ _ _) _ ?_ ?_); (· (first | exact Nat.zero_le _ | exact Nat.le_of_ble_eq_true rfl | omega)); (conv => whnf))
          | ((with_reducible refine @And.intro (@LT.lt Nat _ _ _) _ ?_ ?_); (· omega); (conv => whnf))
          | ((with_reducible refine @And.intro (∃ _, _ = _) _ ?_ ?_); (· exact ⟨_, rfl⟩); (conv => whnf))
          | ((with_reducible refine @And.intro (_ ∨ _) _ ?_ ?_); (· (first | exact Or.inl rfl | exact Or.inr rfl | exact t_b01 _ | assumption)); (conv => whnf))
          | ((with_reducible refine @And.intro (¬ (_ = _)) _ ?_ ?_); (· first | assumption | (with_reducible assumption)); (conv => whnf))
          | (refine hX _ _ _ _ _ _ ?_; (conv => whnf); fail_if_success show False)
          | (rw [t_si]; (conv => whnf))
          | (refine ⟨_, rfl, ?_⟩; (conv => whnf))
          | (refine ⟨_, _, rfl, ?_⟩; (conv => whnf))
          | (refine ⟨_, _, _, rfl, ?_⟩; (conv => whnf))
          | (refine ⟨_, _, _, _, rfl, ?_⟩; (conv => whnf))
          | (refine And.intro (fun c => ?_) (fun c => ?_) <;> (first | (exact absurd c (by decide +kernel)) | (conv => whnf)))
          | fail)
        exact this
  have l1 : ∀ k, k ≤ t_l I → ∀ M, t_sp I M → M 0 0 = I 0 0 → (∀ j, j < k → M 54 j = t_b false) → X 6 [some (.ref 0), some (.int (nI (g_lst (tG I) k))), some (.int (nI 0)), some (.int (nI k)), none] [] (tW M) 0 0 := by
    refine t_for fun k h1 ih M hM h0 hR => ?_
    have m41 := e41 M hM
    refine hG _ _ _ _ _ _ ?_
    (conv => whnf)
    repeat' (first
      | ((with_reducible refine @And.intro (vp_in _ _) _ ?_ ?_); (· (first | with_reducible assumption | ((with_reducible refine t_vin ?_); decide) | ((with_reducible refine vp_in_nI ?_ ?_) <;> first | omega | decide) | (simp (disch := omega) only [xl_n, xl_m, nI_dec, nI_sb, nI_add, pk_mul]; (with_reducible refine vp_in_nI ?_ ?_) <;> first | omega | decide))); (conv => whnf))
      | (refine And.intro (by first | with_reducible assumption | exact (show tL _ = _ from rfl) | decide) ?_; (conv => whnf))
      | ((with_reducible refine @And.intro (_ = _) _ ?_ ?_); (· rfl); (conv => whnf))
      | ((with_reducible refine @And.intro (@LE.le Nat _ _ _) _ ?_ ?_); (· (first | exact Nat.zero_le _ | exact Nat.le_of_ble_eq_true rfl | omega)); (conv => whnf))
      | ((with_reducible refine @And.intro (@LT.lt Nat _ _ _) _ ?_ ?_); (· omega); (conv => whnf))
      | ((with_reducible refine @And.intro (∃ _, _ = _) _ ?_ ?_); (· exact ⟨_, rfl⟩); (conv => whnf))
      | ((with_reducible refine @And.intro (_ ∨ _) _ ?_ ?_); (· (first | exact Or.inl rfl | exact Or.inr rfl | exact t_b01 _ | assumption)); (conv => whnf))
      | ((with_reducible refine @And.intro (¬ (_ = _)) _ ?_ ?_); (· first | assumption | (with_reducible assumption)); (conv => whnf))
      | (refine hX _ _ _ _ _ _ ?_; (conv => whnf); fail_if_success show False)
      | (rw [t_si]; (conv => whnf))
      | (refine ⟨_, rfl, ?_⟩; (conv => whnf))
      | (refine ⟨_, _, rfl, ?_⟩; (conv => whnf))
      | (refine ⟨_, _, _, rfl, ?_⟩; (conv => whnf))
      | (refine ⟨_, _, _, _, rfl, ?_⟩; (conv => whnf))
      | fail)
    refine And.intro (fun c => ?_) (fun c => ?_) <;> (conv => whnf)
    · have : k = t_l I := Nat.le_antisymm h1 (t_kge m41 c (by omega) (by omega))
      subst this
      clear ih
      repeat' (first
        | ((with_reducible refine @And.intro (vp_in _ _) _ ?_ ?_); (· (first | with_reducible assumption | ((with_reducible refine t_vin ?_); decide) | ((with_reducible refine vp_in_nI ?_ ?_) <;> first | omega | decide) | (simp (disch := omega) only [xl_n, xl_m, nI_dec, nI_sb, nI_add, pk_mul]; (with_reducible refine vp_in_nI ?_ ?_) <;> first | omega | decide))); (conv => whnf))
        | (refine And.intro (by first | with_reducible assumption | exact (show tL _ = _ from rfl) | decide) ?_; (conv => whnf))
        | ((with_reducible refine @And.intro (_ = _) _ ?_ ?_); (· rfl); (conv => whnf))
        | ((with_reducible refine @And.intro (@LE.le Nat _ _ _) _ ?_ ?_); (· (first | exact Nat.zero_le _ | exact Nat.le_of_ble_eq_true rfl | omega)); (conv => whnf))
        | ((with_reducible refine @And.intro (@LT.lt Nat _ _ _) _ ?_ ?_); (· omega); (conv => whnf))
        | ((with_reducible refine @And.intro (∃ _, _ = _) _ ?_ ?_); (· exact ⟨_, rfl⟩); (conv => whnf))
        | ((with_reducible refine @And.intro (_ ∨ _) _ ?_ ?_); (· (first | exact Or.inl rfl | exact Or.inr rfl | exact t_b01 _ | assumption)); (conv => whnf))
        | ((with_reducible refine @And.intro (¬ (_ = _)) _ ?_ ?_); (· first | assumption | (with_reducible assumption)); (conv => whnf))
        | (refine hX _ _ _ _ _ _ ?_; (conv => whnf); fail_if_success show False)
        | (rw [t_si]; (conv => whnf))
        | (refine ⟨_, rfl, ?_⟩; (conv => whnf))
        | (refine ⟨_, _, rfl, ?_⟩; (conv => whnf))
        | (refine ⟨_, _, _, rfl, ?_⟩; (conv => whnf))
        | (refine ⟨_, _, _, _, rfl, ?_⟩; (conv => whnf))
        | (refine And.intro (fun c => ?_) (fun c => ?_) <;> (first | (exact absurd c (by decide +kernel)) | (conv => whnf)))
        | fail)
      intro L hL hk
      (conv => whnf)
      have := l2 0 (Nat.zero_le _) L none (hM.tr ((hL.sc (by decide)).sl.sp t_f40)) (by rw [hL 0 (by decide)]; exact h0) (Or.inl rfl) (by
        rw [t_copy hL hk]
        exact tA_eq fun j _ => by rw [hM.1 38 (by decide) (t_nf (by omega))]) (fun j hj => by
        rw [hL 54 (by decide), hR j hj]
        unfold g_seen
        rw [decide_eq_false (by have := (t_line hg hj).2.1; omega)]
        rfl)
      clear l2 l3
      repeat' (first
        | ((with_reducible refine @And.intro (vp_in _ _) _ ?_ ?_); (· (first | with_reducible assumption | ((with_reducible refine t_vin ?_); decide) | ((with_reducible refine vp_in_nI ?_ ?_) <;> first | omega | decide) | (simp (disch := omega) only [xl_n, xl_m, nI_dec, nI_sb, nI_add, pk_mul]; (with_reducible refine vp_in_nI ?_ ?_) <;> first | omega | decide))); (conv => whnf))
        | (refine And.intro (by first | with_reducible assumption | exact (show tL _ = _ from rfl) | decide) ?_; (conv => whnf))
        | ((with_reducible refine @And.intro (_ = _) _ ?_ ?_); (· rfl); (conv => whnf))
        | ((with_reducible refine @And.intro (@LE.le Nat _ _ _) _ ?_ ?_); (· (first | exact Nat.zero_le _ | exact Nat.le_of_ble_eq_true rfl | omega)); (conv => whnf))
        | ((with_reducible refine @And.intro (@LT.lt Nat _ _ _) _ ?_ ?_); (· omega); (conv => whnf))
        | ((with_reducible refine @And.intro (∃ _, _ = _) _ ?_ ?_); (· exact ⟨_, rfl⟩); (conv => whnf))
        | ((with_reducible refine @And.intro (_ ∨ _) _ ?_ ?_); (· (first | exact Or.inl rfl | exact Or.inr rfl | exact t_b01 _ | assumption)); (conv => whnf))
        | ((with_reducible refine @And.intro (¬ (_ = _)) _ ?_ ?_); (· first | assumption | (with_reducible assumption)); (conv => whnf))
        | (refine hX _ _ _ _ _ _ ?_; (conv => whnf); fail_if_success show False)
        | (rw [t_si]; (conv => whnf))
        | (refine ⟨_, rfl, ?_⟩; (conv => whnf))
        | (refine ⟨_, _, rfl, ?_⟩; (conv => whnf))
        | (refine ⟨_, _, _, rfl, ?_⟩; (conv => whnf))
        | (refine ⟨_, _, _, _, rfl, ?_⟩; (conv => whnf))
        | (refine And.intro (fun c => ?_) (fun c => ?_) <;> (first | (exact absurd c (by decide +kernel)) | (conv => whnf)))
        | fail)
      exact this
    · have hk : k < t_l I := t_klt m41 c (by omega)
      obtain ⟨q0, q1, q60, -⟩ := t_line hg hk
      have hl := line M hM k hk
      have ey : (tW M).2.1 (600 + (nI k).toNatClampNeg) (Int32.ofInt 0).toNatClampNeg = nI (g_lny (tG I) k) := by
        rw [nI_clamp (by omega)]
        show M (600 + k) _ = _
        rw [hl]
        exact q0
      have h60 : g_lst (tG I) k ≤ 60 := g_lst_le (m := t_l I) (fun k hk => (t_line hg hk).2.2.1) h1
      have := ih (k + 1) (by omega) (by omega) (xm_u2 M 54 k (t_b false)) (sp54 M k _ hM) (by rw [xm_u2_ne (by decide)]; exact h0) (fun j hj => by
        rw [xm_u2_at]
        by_cases e : j = k
        · rw [if_pos e]
        · rw [if_neg e]
          exact hR j (by omega))
      rw [g_lst_s, ← t_more_nI (by omega) (by omega)] at this
      clear ih l2 l3
      repeat' (first
        | ((with_reducible refine @And.intro (vp_in _ _) _ ?_ ?_); (· (first | with_reducible assumption | ((with_reducible refine t_vin ?_); decide) | ((with_reducible refine vp_in_nI ?_ ?_) <;> first | omega | decide) | (simp (disch := omega) only [xl_n, xl_m, nI_dec, nI_sb, nI_add, pk_mul]; (with_reducible refine vp_in_nI ?_ ?_) <;> first | omega | decide))); (conv => whnf))
        | (refine And.intro (by first | with_reducible assumption | exact (show tL _ = _ from rfl) | decide) ?_; (conv => whnf))
        | ((with_reducible refine @And.intro (_ = _) _ ?_ ?_); (· rfl); (conv => whnf))
        | ((with_reducible refine @And.intro (@LE.le Nat _ _ _) _ ?_ ?_); (· (first | exact Nat.zero_le _ | exact Nat.le_of_ble_eq_true rfl | omega)); (conv => whnf))
        | ((with_reducible refine @And.intro (@LT.lt Nat _ _ _) _ ?_ ?_); (· omega); (conv => whnf))
        | ((with_reducible refine @And.intro (∃ _, _ = _) _ ?_ ?_); (· exact ⟨_, rfl⟩); (conv => whnf))
        | ((with_reducible refine @And.intro (_ ∨ _) _ ?_ ?_); (· (first | exact Or.inl rfl | exact Or.inr rfl | exact t_b01 _ | assumption)); (conv => whnf))
        | ((with_reducible refine @And.intro (¬ (_ = _)) _ ?_ ?_); (· first | assumption | (with_reducible assumption)); (conv => whnf))
        | (refine hX _ _ _ _ _ _ ?_; (conv => whnf); fail_if_success show False)
        | (rw [t_si]; (conv => whnf))
        | (refine ⟨_, rfl, ?_⟩; (conv => whnf))
        | (refine ⟨_, _, rfl, ?_⟩; (conv => whnf))
        | (refine ⟨_, _, _, rfl, ?_⟩; (conv => whnf))
        | (refine ⟨_, _, _, _, rfl, ?_⟩; (conv => whnf))
        | (rw [t_l600 (by first | with_reducible assumption | omega | exact vp_lt (by assumption) | (rw [nI_clamp (by omega)]; omega))]; (conv => whnf))
        | (rw [ey]; (conv => whnf))
        | (refine And.intro (fun c => ?_) (fun c => ?_) <;> (first | (exact absurd c (by decide +kernel)) | (conv => whnf)))
        | fail)
      clear hX hG hQ
      simp (disch := omega) only [xl_n, xl_m, nI_dec, nI_sb, xl_0, xl_1, tW_i, t_bn0, t_bn1, Classical.not_not, t_lt, nI_add, nI_1, pk_mul, nI_clamp, t_si, nI_eq, nI_leI, nM_ne, nM_ne, xm_set, xm_lv0, xm_psh, t_vp0] at *
      exact this
  refine ⟨rfl, ?_⟩
  repeat' (first
    | ((with_reducible refine @And.intro (vp_in _ _) _ ?_ ?_); (· (first | with_reducible assumption | ((with_reducible refine t_vin ?_); decide) | ((with_reducible refine vp_in_nI ?_ ?_) <;> first | omega | decide) | (simp (disch := omega) only [xl_n, xl_m, nI_dec, nI_sb, nI_add, pk_mul]; (with_reducible refine vp_in_nI ?_ ?_) <;> first | omega | decide))); (conv => whnf))
    | (refine And.intro (by first | with_reducible assumption | exact (show tL _ = _ from rfl) | decide) ?_; (conv => whnf))
    | ((with_reducible refine @And.intro (_ = _) _ ?_ ?_); (· rfl); (conv => whnf))
    | ((with_reducible refine @And.intro (@LE.le Nat _ _ _) _ ?_ ?_); (· (first | exact Nat.zero_le _ | exact Nat.le_of_ble_eq_true rfl | omega)); (conv => whnf))
    | ((with_reducible refine @And.intro (@LT.lt Nat _ _ _) _ ?_ ?_); (· omega); (conv => whnf))
    | ((with_reducible refine @And.intro (∃ _, _ = _) _ ?_ ?_); (· exact ⟨_, rfl⟩); (conv => whnf))
    | ((with_reducible refine @And.intro (_ ∨ _) _ ?_ ?_); (· (first | exact Or.inl rfl | exact Or.inr rfl | exact t_b01 _ | assumption)); (conv => whnf))
    | ((with_reducible refine @And.intro (¬ (_ = _)) _ ?_ ?_); (· first | assumption | (with_reducible assumption)); (conv => whnf))
    | (refine hX _ _ _ _ _ _ ?_; (conv => whnf); fail_if_success show False)
    | (rw [t_si]; (conv => whnf))
    | (refine ⟨_, rfl, ?_⟩; (conv => whnf))
    | (refine ⟨_, _, rfl, ?_⟩; (conv => whnf))
    | (refine ⟨_, _, _, rfl, ?_⟩; (conv => whnf))
    | (refine ⟨_, _, _, _, rfl, ?_⟩; (conv => whnf))
    | (refine And.intro (fun c => ?_) (fun c => ?_) <;> (first | (exact absurd c (by decide +kernel)) | (conv => whnf)))
    | fail)
  exact l1 0 (Nat.zero_le _) I t_sp.rf rfl (fun j hj => by omega)
theorem ct_X11_rightLines {Iv : xI} (hI : xm_good Iv) : xm_Ct Iv yX11_rightLines (ws_ yX11_rightLines cX11_rightLines 5 (some .int)) 7 0 0 S_X11_rightLines := xm_enter (rt := 0) (init := false) (by decide +kernel) rfl (fun h => by cases h) (Or.inl ⟨rfl, rfl⟩) (oX11_rightLines hI) body_X11_rightLines
theorem cv_X11_rightLines {Iv : xI} {own : String} {cc : ByteArray} {fr pc idx : Nat} (hI : xm_good Iv) (hdg : decode cc pc = .ok (.invokevirtual idx, 3)) (hl : xm_ml own idx yX11_rightLines) (hfr : 7 < fr) : xm_CallOK Iv own cc fr pc (pc + 3) 1 0 0 (xm_this 8 S_X11_rightLines) := xm_callV 8 hI (ct_X11_rightLines hI) hdg hl q2522 qs108 q145 q2523 rfl rfl (by decide +kernel) hfr (by decide)

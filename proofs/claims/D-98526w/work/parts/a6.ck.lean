/-! ===== a troupe begins ===== -/
set_option maxRecDepth 100000
set_option maxHeartbeats 4000000
def c_bT (I : tI) : gT := ((fun p => if p < 8 then I 38 p else nI 0), (fun p => if p < 8 then I 37 p else nI 0), (fun p => if p < 8 then nM else nI 0), (fun h p => if h < 9 ∧ p < 8 then (if t_has (I 38 p) h = true then nI 0 else nM) else nI 0), (fun h => if h < 9 then nM else nI 0), (fun _ => false), nI 0)
def c_bst (I : tI) (j : Nat) : Int32 := if j < c_h I ∧ I 31 j = nI 0 then nI 1 else nI 0
def c_bg (r : Nat) (I J : tI) : Prop := c_sc r I J ∧ J r 6 = nI 0 ∧ (∀ j, j < 9 → J (10 * r) j = c_bst I j) ∧ ∀ j, j < 9 → J (10 * r + 5) j = nM
theorem c_bg.w {r b k : Nat} {v : Int32} {I J : tI} (h : c_bg r I J) (hr : 5 ≤ r) (h1 : 10 * r + 1 ≤ b) (h2 : b < 10 * r + 5) : c_bg r I (xm_u2 J b k v) :=
  ⟨h.1.tr (c_sc.u (by omega)), by rw [xm_u2_ne (by omega)]; exact h.2.1, fun j hj => by rw [xm_u2_ne (by omega)]; exact h.2.2.1 j hj, fun j hj => by rw [xm_u2_ne (by omega)]; exact h.2.2.2 j hj⟩
def c_bw (r : Nat) (I : tI) (p h : Nat) (J : tI) : Prop := ∀ a q, a < 9 → q < 8 → J (10 * r + 4) (8 * a + q) = if (q < p ∨ (q = p ∧ a < h)) ∧ t_has (I 38 q) a = true then nI 0 else nM
def c_bv (r : Nat) (I : tI) (p : Nat) (J : tI) : Prop := ∀ q, q < p → J (10 * r + 1) q = I 38 q ∧ J (10 * r + 2) q = nM ∧ J (10 * r + 3) q = I 37 q
abbrev bX10_begins_0 : List xE := [(.aload_n 0, 1, 0, 0, 0), (.iconst 0, 2, 0, 0, 0), (.putfield 34, 5, 7, 6, 0), (.iconst 0, 6, 0, 0, 0), (.istore_n 1, 7, 0, 0, 0)]
abbrev bX10_begins_7 : List xE := [(.iload_n 1, 8, 0, 0, 0), (.bipush 9, 10, 0, 0, 0), (.if_icmp .ge 56, 13, 0, 66, 0), (.aload_n 0, 14, 0, 0, 0), (.getfield 15, 17, 7, 0, 1), (.iload_n 1, 18, 0, 0, 0), (.iload_n 1, 19, 0, 0, 0), (.aload_n 0, 20, 0, 0, 0), (.getfield 3, 23, 7, 7, 1), (.getfield 38, 26, 0, 0, 1), (.getfield 42, 29, 1, 11, 0), (.if_icmp .ge 22, 32, 0, 51, 0), (.aload_n 0, 33, 0, 0, 0), (.getfield 3, 36, 7, 7, 1), (.getfield 38, 39, 0, 0, 1), (.getfield 47, 42, 1, 1, 1), (.iload_n 1, 43, 0, 0, 0), (.iaload, 44, 0, 0, 0), (.ifCond .ne 7, 47, 0, 51, 0), (.iconst 1, 48, 0, 0, 0), (.goto 4, 51, 0, 52, 0)]
abbrev bX10_begins_51 : List xE := [(.iconst 0, 52, 0, 0, 0)]
abbrev bX10_begins_52 : List xE := [(.iastore, 53, 0, 0, 0), (.aload_n 0, 54, 0, 0, 0), (.getfield 31, 57, 7, 5, 1), (.iload_n 1, 58, 0, 0, 0), (.iconst (-1), 59, 0, 0, 0), (.iastore, 60, 0, 0, 0), (.iinc 1 1, 63, 0, 0, 0), (.goto (-56), 66, 0, 7, 0)]
abbrev bX10_begins_66 : List xE := [(.iconst 0, 67, 0, 0, 0), (.istore_n 1, 68, 0, 0, 0)]
abbrev bX10_begins_68 : List xE := [(.iload_n 1, 69, 0, 0, 0), (.bipush 72, 71, 0, 0, 0), (.if_icmp .ge 16, 74, 0, 87, 0), (.aload_n 0, 75, 0, 0, 0), (.getfield 28, 78, 7, 4, 1), (.iload_n 1, 79, 0, 0, 0), (.iconst (-1), 80, 0, 0, 0), (.iastore, 81, 0, 0, 0), (.iinc 1 1, 84, 0, 0, 0), (.goto (-16), 87, 0, 68, 0)]
abbrev bX10_begins_87 : List xE := [(.iconst 0, 88, 0, 0, 0), (.istore_n 1, 89, 0, 0, 0)]
abbrev bX10_begins_89 : List xE := [(.iload_n 1, 90, 0, 0, 0), (.bipush 8, 92, 0, 0, 0), (.if_icmp .ge 87, 95, 0, 179, 0), (.aload_n 0, 96, 0, 0, 0), (.getfield 19, 99, 7, 1, 1), (.iload_n 1, 100, 0, 0, 0), (.aload_n 0, 101, 0, 0, 0), (.getfield 3, 104, 7, 7, 1), (.getfield 38, 107, 0, 0, 1), (.getfield 50, 110, 1, 8, 1), (.iload_n 1, 111, 0, 0, 0), (.iaload, 112, 0, 0, 0), (.iastore, 113, 0, 0, 0), (.aload_n 0, 114, 0, 0, 0), (.getfield 22, 117, 7, 2, 1), (.iload_n 1, 118, 0, 0, 0), (.iconst (-1), 119, 0, 0, 0), (.iastore, 120, 0, 0, 0), (.aload_n 0, 121, 0, 0, 0), (.getfield 25, 124, 7, 3, 1), (.iload_n 1, 125, 0, 0, 0), (.aload_n 0, 126, 0, 0, 0), (.getfield 3, 129, 7, 7, 1), (.getfield 38, 132, 0, 0, 1), (.getfield 53, 135, 1, 7, 1), (.iload_n 1, 136, 0, 0, 0), (.iaload, 137, 0, 0, 0), (.iastore, 138, 0, 0, 0), (.iconst 0, 139, 0, 0, 0), (.istore_n 2, 140, 0, 0, 0)]
abbrev bX10_begins_140 : List xE := [(.iload_n 2, 141, 0, 0, 0), (.bipush 9, 143, 0, 0, 0), (.if_icmp .ge 30, 146, 0, 173, 0), (.aload_n 0, 147, 0, 0, 0), (.iload_n 1, 148, 0, 0, 0), (.iload_n 2, 149, 0, 0, 0), (.invokevirtual 54, 152, 0, 0, 9), (.ifCond .eq 15, 155, 0, 167, 0), (.aload_n 0, 156, 0, 0, 0), (.getfield 28, 159, 7, 4, 1), (.bipush 8, 161, 0, 0, 0), (.iload_n 2, 162, 0, 0, 0), (.imul, 163, 0, 0, 0), (.iload_n 1, 164, 0, 0, 0), (.iadd, 165, 0, 0, 0), (.iconst 0, 166, 0, 0, 0), (.iastore, 167, 0, 0, 0)]
abbrev bX10_begins_167 : List xE := [(.iinc 2 1, 170, 0, 0, 0), (.goto (-30), 173, 0, 140, 0)]
abbrev bX10_begins_173 : List xE := [(.iinc 1 1, 176, 0, 0, 0), (.goto (-87), 179, 0, 89, 0)]
abbrev bX10_begins_179 : List xE := [(.aload_n 0, 180, 0, 0, 0), (.areturn, 181, 0, 0, 0)]
abbrev kX10_begins : List (Nat × List xE) := [(0, bX10_begins_0), (7, bX10_begins_7), (51, bX10_begins_51), (52, bX10_begins_52), (66, bX10_begins_66), (68, bX10_begins_68), (87, bX10_begins_87), (89, bX10_begins_89), (140, bX10_begins_140), (167, bX10_begins_167), (173, bX10_begins_173), (179, bX10_begins_179)]
abbrev lX10_begins : List (Nat × Nat × Nat × xS) := [(3, 0, 0, xm_this 7 S_X10_isOf)]
theorem oX10_begins_0  : xm_okb cI RX10 cX10_begins false 2 lX10_begins bX10_begins_0 0 := xo_0 dX10_begins_0 rfl trivial (xo_0 dX10_begins_1 rfl trivial (xo_0 dX10_begins_2 rfl (xm_fp_of (xm_fg_of (Or.inl q674) (by decide) rfl (by decide) rfl rfl (Or.inl rfl) rfl) (by decide) rfl (Or.inl ⟨rfl, rfl⟩) rfl) (xo_0 dX10_begins_5 rfl trivial (xo_0 dX10_begins_6 rfl trivial (xo_n)))))
theorem oX10_begins_7  : xm_okb cI RX10 cX10_begins false 2 lX10_begins bX10_begins_7 7 := xo_0 dX10_begins_7 rfl trivial (xo_0 dX10_begins_8 rfl (xo_bipush (by decide +kernel)) (xo_0 dX10_begins_10 rfl rfl (xo_0 dX10_begins_13 rfl trivial (xo_1 dX10_begins_14 rfl (xm_fg_of (Or.inl q662) (by decide) rfl (by decide) rfl rfl (Or.inl rfl) rfl) (xo_0 dX10_begins_17 rfl trivial (xo_0 dX10_begins_18 rfl trivial (xo_0 dX10_begins_19 rfl trivial (xo_1 dX10_begins_20 rfl (xm_fg_of (Or.inl q676) (by decide) rfl (by decide) rfl rfl (Or.inl rfl) rfl) (xo_1 dX10_begins_23 rfl (xm_fg_of (Or.inr ⟨_, q717⟩) (by decide) rfl (by decide) rfl rfl (Or.inl rfl) rfl) (xo_0 dX10_begins_26 rfl (xm_fg_of (Or.inr ⟨_, q553⟩) (by decide) rfl (by decide) rfl rfl (Or.inl rfl) rfl) (xo_0 dX10_begins_29 rfl rfl (xo_0 dX10_begins_32 rfl trivial (xo_1 dX10_begins_33 rfl (xm_fg_of (Or.inl q676) (by decide) rfl (by decide) rfl rfl (Or.inl rfl) rfl) (xo_1 dX10_begins_36 rfl (xm_fg_of (Or.inr ⟨_, q717⟩) (by decide) rfl (by decide) rfl rfl (Or.inl rfl) rfl) (xo_1 dX10_begins_39 rfl (xm_fg_of (Or.inr ⟨_, q519⟩) (by decide) rfl (by decide) rfl rfl (Or.inl rfl) rfl) (xo_0 dX10_begins_42 rfl trivial (xo_0 dX10_begins_43 rfl trivial (xo_0 dX10_begins_44 rfl rfl (xo_0 dX10_begins_47 rfl trivial (xo_0 dX10_begins_48 rfl rfl (xo_n)))))))))))))))))))))
theorem oX10_begins_51  : xm_okb cI RX10 cX10_begins false 2 lX10_begins bX10_begins_51 51 := xo_0 dX10_begins_51 rfl trivial (xo_n)
theorem oX10_begins_52  : xm_okb cI RX10 cX10_begins false 2 lX10_begins bX10_begins_52 52 := xo_0 dX10_begins_52 rfl trivial (xo_0 dX10_begins_53 rfl trivial (xo_1 dX10_begins_54 rfl (xm_fg_of (Or.inl q672) (by decide) rfl (by decide) rfl rfl (Or.inl rfl) rfl) (xo_0 dX10_begins_57 rfl trivial (xo_0 dX10_begins_58 rfl trivial (xo_0 dX10_begins_59 rfl trivial (xo_0 dX10_begins_60 rfl trivial (xo_0 dX10_begins_63 rfl rfl (xo_n))))))))
theorem oX10_begins_66  : xm_okb cI RX10 cX10_begins false 2 lX10_begins bX10_begins_66 66 := xo_0 dX10_begins_66 rfl trivial (xo_0 dX10_begins_67 rfl trivial (xo_n))
theorem oX10_begins_68  : xm_okb cI RX10 cX10_begins false 2 lX10_begins bX10_begins_68 68 := xo_0 dX10_begins_68 rfl trivial (xo_0 dX10_begins_69 rfl (xo_bipush (by decide +kernel)) (xo_0 dX10_begins_71 rfl rfl (xo_0 dX10_begins_74 rfl trivial (xo_1 dX10_begins_75 rfl (xm_fg_of (Or.inl q670) (by decide) rfl (by decide) rfl rfl (Or.inl rfl) rfl) (xo_0 dX10_begins_78 rfl trivial (xo_0 dX10_begins_79 rfl trivial (xo_0 dX10_begins_80 rfl trivial (xo_0 dX10_begins_81 rfl trivial (xo_0 dX10_begins_84 rfl rfl (xo_n))))))))))
theorem oX10_begins_87  : xm_okb cI RX10 cX10_begins false 2 lX10_begins bX10_begins_87 87 := xo_0 dX10_begins_87 rfl trivial (xo_0 dX10_begins_88 rfl trivial (xo_n))
theorem oX10_begins_89  : xm_okb cI RX10 cX10_begins false 2 lX10_begins bX10_begins_89 89 := xo_0 dX10_begins_89 rfl trivial (xo_0 dX10_begins_90 rfl (xo_bipush (by decide +kernel)) (xo_0 dX10_begins_92 rfl rfl (xo_0 dX10_begins_95 rfl trivial (xo_1 dX10_begins_96 rfl (xm_fg_of (Or.inl q664) (by decide) rfl (by decide) rfl rfl (Or.inl rfl) rfl) (xo_0 dX10_begins_99 rfl trivial (xo_0 dX10_begins_100 rfl trivial (xo_1 dX10_begins_101 rfl (xm_fg_of (Or.inl q676) (by decide) rfl (by decide) rfl rfl (Or.inl rfl) rfl) (xo_1 dX10_begins_104 rfl (xm_fg_of (Or.inr ⟨_, q717⟩) (by decide) rfl (by decide) rfl rfl (Or.inl rfl) rfl) (xo_1 dX10_begins_107 rfl (xm_fg_of (Or.inr ⟨_, q544⟩) (by decide) rfl (by decide) rfl rfl (Or.inl rfl) rfl) (xo_0 dX10_begins_110 rfl trivial (xo_0 dX10_begins_111 rfl trivial (xo_0 dX10_begins_112 rfl trivial (xo_0 dX10_begins_113 rfl trivial (xo_1 dX10_begins_114 rfl (xm_fg_of (Or.inl q666) (by decide) rfl (by decide) rfl rfl (Or.inl rfl) rfl) (xo_0 dX10_begins_117 rfl trivial (xo_0 dX10_begins_118 rfl trivial (xo_0 dX10_begins_119 rfl trivial (xo_0 dX10_begins_120 rfl trivial (xo_1 dX10_begins_121 rfl (xm_fg_of (Or.inl q668) (by decide) rfl (by decide) rfl rfl (Or.inl rfl) rfl) (xo_0 dX10_begins_124 rfl trivial (xo_0 dX10_begins_125 rfl trivial (xo_1 dX10_begins_126 rfl (xm_fg_of (Or.inl q676) (by decide) rfl (by decide) rfl rfl (Or.inl rfl) rfl) (xo_1 dX10_begins_129 rfl (xm_fg_of (Or.inr ⟨_, q717⟩) (by decide) rfl (by decide) rfl rfl (Or.inl rfl) rfl) (xo_1 dX10_begins_132 rfl (xm_fg_of (Or.inr ⟨_, q541⟩) (by decide) rfl (by decide) rfl rfl (Or.inl rfl) rfl) (xo_0 dX10_begins_135 rfl trivial (xo_0 dX10_begins_136 rfl trivial (xo_0 dX10_begins_137 rfl trivial (xo_0 dX10_begins_138 rfl trivial (xo_0 dX10_begins_139 rfl trivial (xo_n))))))))))))))))))))))))))))))
theorem oX10_begins_140  : xm_okb cI RX10 cX10_begins false 2 lX10_begins bX10_begins_140 140 := xo_0 dX10_begins_140 rfl trivial (xo_0 dX10_begins_141 rfl (xo_bipush (by decide +kernel)) (xo_0 dX10_begins_143 rfl rfl (xo_0 dX10_begins_146 rfl trivial (xo_0 dX10_begins_147 rfl trivial (xo_0 dX10_begins_148 rfl trivial (xo_c rfl (cv_X10_isOf dX10_begins_149 (Or.inl q703) (by decide)) (xo_0 dX10_begins_152 rfl rfl (xo_0 dX10_begins_155 rfl trivial (xo_1 dX10_begins_156 rfl (xm_fg_of (Or.inl q670) (by decide) rfl (by decide) rfl rfl (Or.inl rfl) rfl) (xo_0 dX10_begins_159 rfl (xo_bipush (by decide +kernel)) (xo_0 dX10_begins_161 rfl trivial (xo_0 dX10_begins_162 rfl trivial (xo_0 dX10_begins_163 rfl trivial (xo_0 dX10_begins_164 rfl trivial (xo_0 dX10_begins_165 rfl trivial (xo_0 dX10_begins_166 rfl trivial (xo_n)))))))))))))))))
theorem oX10_begins_167  : xm_okb cI RX10 cX10_begins false 2 lX10_begins bX10_begins_167 167 := xo_0 dX10_begins_167 rfl trivial (xo_0 dX10_begins_170 rfl rfl (xo_n))
theorem oX10_begins_173  : xm_okb cI RX10 cX10_begins false 2 lX10_begins bX10_begins_173 173 := xo_0 dX10_begins_173 rfl trivial (xo_0 dX10_begins_176 rfl rfl (xo_n))
theorem oX10_begins_179  : xm_okb cI RX10 cX10_begins false 2 lX10_begins bX10_begins_179 179 := xo_0 dX10_begins_179 rfl trivial (xo_0 dX10_begins_180 rfl trivial (xo_n))
theorem oX10_begins  : ∀ q ∈ kX10_begins, xm_okb cI RX10 cX10_begins false 2 lX10_begins q.2 q.1 := by
  intro q hq
  simp only [List.mem_cons, List.not_mem_nil, or_false] at hq
  rcases hq with rfl | rfl | rfl | rfl | rfl | rfl | rfl | rfl | rfl | rfl | rfl | rfl
  · exact oX10_begins_0  
  · exact oX10_begins_7  
  · exact oX10_begins_51  
  · exact oX10_begins_52  
  · exact oX10_begins_66  
  · exact oX10_begins_68  
  · exact oX10_begins_87  
  · exact oX10_begins_89  
  · exact oX10_begins_140  
  · exact oX10_begins_167  
  · exact oX10_begins_173  
  · exact oX10_begins_179  
def S_X10_begins : xS := cU fun as P X I Q QX => ∃ (r : Nat) (L : List lC), as = [.ref r] ∧ c_tr P r ∧ c_ok I ∧ c_lw P X I L ∧ (∀ h, h < c_h I → nI 0 ≤ I 31 h) ∧ (∀ p, p < 8 → t_m9 (I 38 p)) ∧ ∀ J, c_sc r I J → c_ts P X J r L → cA J r = c_bT I → Q (some (.ref r)) J
theorem body_X10_begins : xm_Body 3 3 0 0 [] lX10_begins kX10_begins S_X10_begins := by
  intro X avs w Q QX hX0 hS
  have hG := xm_go [] hX0
  have hX := xm_go [7, 68, 89, 140, 167] hX0
  clear hX0
  obtain ⟨P, Z, I, rfl, r, L, rfl, hr, hok, hlw, hb, hm9, hQ⟩ := hS
  obtain ⟨hn, h9, hm, h8⟩ := id hok
  have hrn := hr.ne
  have l89 : ∀ p, p ≤ 8 → ∀ J o, (o = none ∨ ∃ z, o = some (.int z)) → c_bg r I J → c_bw r I p 0 J → c_bv r I p J → X 89 [some (.ref r), some (.int (nI p)), o] [] (cW P Z J) 0 0 := by
    refine t_for fun p h1 ih J o ho hg hw hv => ?_
    have inner : p < 8 → ∀ h, h ≤ 9 → ∀ J, c_bg r I J → c_bw r I p h J → c_bv r I (p + 1) J → X 140 [some (.ref r), some (.int (nI p)), some (.int (nI h))] [] (cW P Z J) 0 0 := by
      intro hp8
      have ih := fun J o q => ih (p + 1) (by omega) (by omega) J o q
      refine t_for fun h h1 ih2 J hg hw hv => ?_
      have ih2 := fun q => ih2 (h + 1) (by omega) q
      have x167 : h < 9 → ∀ N, c_bg r I N → c_bw r I p (h + 1) N → c_bv r I (p + 1) N → X 167 [some (.ref r), some (.int (nI p)), some (.int (nI h))] [] (cW P Z N) 0 0 := by
        intro hh N n1 n2 n3
        have := ih2 (by omega) N n1 n2 n3
        clear ih ih2
        refine hG _ _ _ _ _ _ ?_
        (conv => whnf)
        repeat' (first
          | ((with_reducible refine @And.intro (vp_in _ _) _ ?_ ?_); (· (first | with_reducible assumption | ((with_reducible refine t_vin ?_); decide) | ((with_reducible refine vp_in_nI ?_ ?_) <;> first | omega | decide) | (simp (disch := omega) only [xl_n, xl_m, nI_dec, nI_sb, nI_add, pk_mul]; (with_reducible refine vp_in_nI ?_ ?_) <;> first | omega | decide))); (conv => whnf))
          | (refine And.intro (by first | with_reducible assumption | exact (show cL _ _ = _ from rfl) | decide) ?_; (conv => whnf))
          | ((with_reducible refine @And.intro (_ = _) _ ?_ ?_); (· rfl); (conv => whnf))
          | ((with_reducible refine @And.intro (@LE.le Nat _ _ _) _ ?_ ?_); (· (first | exact Nat.zero_le _ | exact Nat.le_of_ble_eq_true rfl | omega)); (conv => whnf))
          | ((with_reducible refine @And.intro (@LT.lt Nat _ _ _) _ ?_ ?_); (· omega); (conv => whnf))
          | ((with_reducible refine @And.intro (∃ _, _ = _) _ ?_ ?_); (· exact ⟨_, rfl⟩); (conv => whnf))
          | ((with_reducible refine @And.intro (_ ∨ _) _ ?_ ?_); (· (first | exact Or.inl rfl | exact Or.inr rfl | exact t_b01 _ | assumption)); (conv => whnf))
          | ((with_reducible refine @And.intro (¬ (_ = _)) _ ?_ ?_); (· first | assumption | (with_reducible assumption)); (conv => whnf))
          | (refine hX _ _ _ _ _ _ ?_; (conv => whnf); fail_if_success show False)
          | (rw [c_si]; (conv => whnf))
          | (refine ⟨_, rfl, ?_⟩; (conv => whnf))
          | (refine ⟨_, _, rfl, ?_⟩; (conv => whnf))
          | (refine ⟨_, _, _, rfl, ?_⟩; (conv => whnf))
          | (refine ⟨_, _, _, _, rfl, ?_⟩; (conv => whnf))
          | (refine And.intro (fun c => ?_) (fun c => ?_) <;> (first | (exact absurd c (by decide +kernel)) | (conv => whnf)))
          | fail)
        clear hX hG
        simp (disch := omega) only [xl_n, xl_m, nI_dec, nI_sb, xl_0, xl_1, cW_i, Nat.add_zero, Nat.reduceAdd, Nat.reduceMul, t_bn0, t_bn1, Classical.not_not, t_lt, nI_add, nI_1, pk_mul, nI_clamp, c_si, nI_eq, nI_leI, nM_ne, nM_ne, xm_set] at *
        exact this
      clear ih2
      have fin : h = 9 → X 89 [some (.ref r), some (.int (nI (p + 1))), some (.int (nI h))] [] (cW P Z J) 0 0 := fun e => ih J _ (Or.inr ⟨_, rfl⟩) hg (fun a q ha hq => by
        rw [hw a q ha hq]
        congr 1
        subst e
        exact propext ⟨fun z => ⟨by omega, z.2⟩, fun z => ⟨by omega, z.2⟩⟩) hv
      clear ih
      have e38 : t_has (J (10 * r + 1) p) h = t_has (I 38 p) h := by rw [(hv p (by omega)).1]
      refine hG _ _ _ _ _ _ ?_
      (conv => whnf)
      repeat' (first
        | ((with_reducible refine @And.intro (vp_in _ _) _ ?_ ?_); (· (first | with_reducible assumption | ((with_reducible refine t_vin ?_); decide) | ((with_reducible refine vp_in_nI ?_ ?_) <;> first | omega | decide) | (simp (disch := omega) only [xl_n, xl_m, nI_dec, nI_sb, nI_add, pk_mul]; (with_reducible refine vp_in_nI ?_ ?_) <;> first | omega | decide))); (conv => whnf))
        | (refine And.intro (by first | with_reducible assumption | exact (show cL _ _ = _ from rfl) | decide) ?_; (conv => whnf))
        | ((with_reducible refine @And.intro (_ = _) _ ?_ ?_); (· rfl); (conv => whnf))
        | ((with_reducible refine @And.intro (@LE.le Nat _ _ _) _ ?_ ?_); (· (first | exact Nat.zero_le _ | exact Nat.le_of_ble_eq_true rfl | omega)); (conv => whnf))
        | ((with_reducible refine @And.intro (@LT.lt Nat _ _ _) _ ?_ ?_); (· omega); (conv => whnf))
        | ((with_reducible refine @And.intro (∃ _, _ = _) _ ?_ ?_); (· exact ⟨_, rfl⟩); (conv => whnf))
        | ((with_reducible refine @And.intro (_ ∨ _) _ ?_ ?_); (· (first | exact Or.inl rfl | exact Or.inr rfl | exact t_b01 _ | assumption)); (conv => whnf))
        | ((with_reducible refine @And.intro (¬ (_ = _)) _ ?_ ?_); (· first | assumption | (with_reducible assumption)); (conv => whnf))
        | (refine hX _ _ _ _ _ _ ?_; (conv => whnf); fail_if_success show False)
        | (rw [c_si]; (conv => whnf))
        | (refine ⟨_, rfl, ?_⟩; (conv => whnf))
        | (refine ⟨_, _, rfl, ?_⟩; (conv => whnf))
        | (refine ⟨_, _, _, rfl, ?_⟩; (conv => whnf))
        | (refine ⟨_, _, _, _, rfl, ?_⟩; (conv => whnf))
        | fail)
      refine And.intro (fun c => ?_) (fun c => ?_) <;> (conv => whnf)
      · have fin := fin (Nat.le_antisymm h1 (t_kge (a := nI 9) rfl c (by omega) (by omega)))
        clear x167
        repeat' (first
          | ((with_reducible refine @And.intro (vp_in _ _) _ ?_ ?_); (· (first | with_reducible assumption | ((with_reducible refine t_vin ?_); decide) | ((with_reducible refine vp_in_nI ?_ ?_) <;> first | omega | decide) | (simp (disch := omega) only [xl_n, xl_m, nI_dec, nI_sb, nI_add, pk_mul]; (with_reducible refine vp_in_nI ?_ ?_) <;> first | omega | decide))); (conv => whnf))
          | (refine And.intro (by first | with_reducible assumption | exact (show cL _ _ = _ from rfl) | decide) ?_; (conv => whnf))
          | ((with_reducible refine @And.intro (_ = _) _ ?_ ?_); (· rfl); (conv => whnf))
          | ((with_reducible refine @And.intro (@LE.le Nat _ _ _) _ ?_ ?_); (· (first | exact Nat.zero_le _ | exact Nat.le_of_ble_eq_true rfl | omega)); (conv => whnf))
          | ((with_reducible refine @And.intro (@LT.lt Nat _ _ _) _ ?_ ?_); (· omega); (conv => whnf))
          | ((with_reducible refine @And.intro (∃ _, _ = _) _ ?_ ?_); (· exact ⟨_, rfl⟩); (conv => whnf))
          | ((with_reducible refine @And.intro (_ ∨ _) _ ?_ ?_); (· (first | exact Or.inl rfl | exact Or.inr rfl | exact t_b01 _ | assumption)); (conv => whnf))
          | ((with_reducible refine @And.intro (¬ (_ = _)) _ ?_ ?_); (· first | assumption | (with_reducible assumption)); (conv => whnf))
          | (refine hX _ _ _ _ _ _ ?_; (conv => whnf); fail_if_success show False)
          | (rw [c_si]; (conv => whnf))
          | (refine ⟨_, rfl, ?_⟩; (conv => whnf))
          | (refine ⟨_, _, rfl, ?_⟩; (conv => whnf))
          | (refine ⟨_, _, _, rfl, ?_⟩; (conv => whnf))
          | (refine ⟨_, _, _, _, rfl, ?_⟩; (conv => whnf))
          | (refine And.intro (fun c => ?_) (fun c => ?_) <;> (first | (exact absurd c (by decide +kernel)) | (conv => whnf)))
          | fail)
        clear hX hG
        simp (disch := omega) only [xl_n, xl_m, nI_dec, nI_sb, xl_0, xl_1, cW_i, Nat.add_zero, Nat.reduceAdd, Nat.reduceMul, t_bn0, t_bn1, Classical.not_not, t_lt, nI_add, nI_1, pk_mul, nI_clamp, c_si, nI_eq, nI_leI, nM_ne, nM_ne, xm_set] at *
        exact fin
      · have hh : h < 9 := t_klt (a := nI 9) rfl c (by omega)
        have x167 := x167 hh
        clear fin
        have st : t_has (I 38 p) h = false → X 167 [some (.ref r), some (.int (nI p)), some (.int (nI h))] [] (cW P Z J) 0 0 := fun e => x167 J hg (fun a q ha hq => by
          rw [hw a q ha hq]
          congr 1
          refine propext ⟨fun z => ⟨by omega, z.2⟩, fun z => ⟨?_, z.2⟩⟩
          rcases z.1 with y | ⟨y1, y2⟩
          · exact Or.inl y
          · by_cases y3 : a = h
            · have z2 := z.2
              rw [y1, y3, e] at z2
              cases z2
            · exact Or.inr ⟨y1, by omega⟩) hv
        have sw : t_has (I 38 p) h = true → X 167 [some (.ref r), some (.int (nI p)), some (.int (nI h))] [] (cW P Z (xm_u2 J (10 * r + 4) (8 * h + p) (nI 0))) 0 0 := fun e => x167 _ (hg.w hrn.1 (by omega) (by omega)) (fun a q ha hq => by
          rw [xm_u2_at]
          by_cases y : 8 * a + q = 8 * h + p
          · have y1 : a = h := by omega
            have y2 : q = p := by omega
            subst y1
            subst y2
            rw [if_pos y, if_pos ⟨Or.inr ⟨rfl, by omega⟩, e⟩]
          · rw [if_neg y, hw a q ha hq]
            congr 1
            refine propext ⟨fun z => ⟨by omega, z.2⟩, fun z => ⟨by omega, z.2⟩⟩) (fun q hq => by rw [xm_u2_ne (by omega), xm_u2_ne (by omega), xm_u2_ne (by omega)]; exact hv q hq)
        clear x167
        repeat' (first
          | ((with_reducible refine @And.intro (vp_in _ _) _ ?_ ?_); (· (first | with_reducible assumption | ((with_reducible refine t_vin ?_); decide) | ((with_reducible refine vp_in_nI ?_ ?_) <;> first | omega | decide) | (simp (disch := omega) only [xl_n, xl_m, nI_dec, nI_sb, nI_add, pk_mul]; (with_reducible refine vp_in_nI ?_ ?_) <;> first | omega | decide))); (conv => whnf))
          | (refine And.intro (by first | with_reducible assumption | exact (show cL _ _ = _ from rfl) | decide) ?_; (conv => whnf))
          | ((with_reducible refine @And.intro (_ = _) _ ?_ ?_); (· rfl); (conv => whnf))
          | ((with_reducible refine @And.intro (@LE.le Nat _ _ _) _ ?_ ?_); (· (first | exact Nat.zero_le _ | exact Nat.le_of_ble_eq_true rfl | omega)); (conv => whnf))
          | ((with_reducible refine @And.intro (@LT.lt Nat _ _ _) _ ?_ ?_); (· omega); (conv => whnf))
          | ((with_reducible refine @And.intro (∃ _, _ = _) _ ?_ ?_); (· exact ⟨_, rfl⟩); (conv => whnf))
          | ((with_reducible refine @And.intro (_ ∨ _) _ ?_ ?_); (· (first | exact Or.inl rfl | exact Or.inr rfl | exact t_b01 _ | assumption)); (conv => whnf))
          | ((with_reducible refine @And.intro (¬ (_ = _)) _ ?_ ?_); (· first | assumption | (with_reducible assumption)); (conv => whnf))
          | (refine hX _ _ _ _ _ _ ?_; (conv => whnf); fail_if_success show False)
          | (rw [c_si]; simp (disch := omega) only [xl_n, xl_m, nI_dec, nI_sb, xl_0, xl_1, cW_i, Nat.add_zero, Nat.reduceAdd, Nat.reduceMul, t_bn0, t_bn1, Classical.not_not, t_lt, nI_add, nI_1, pk_mul, nI_clamp, c_si, nI_eq, nI_leI, nM_ne, nM_ne, xm_u2_ne, xm_u2_at, reduceIte, Nat.reduceEqDiff]; (conv => whnf))
          | (refine ⟨_, rfl, ?_⟩; (conv => whnf))
          | (refine ⟨_, _, rfl, ?_⟩; (conv => whnf))
          | (refine ⟨_, _, _, rfl, ?_⟩; (conv => whnf))
          | (refine ⟨_, _, _, _, rfl, ?_⟩; (conv => whnf))
          | (refine ⟨_,_,_,rfl,hr,hp8,?_⟩; (conv => whnf))
          | (rw [e38]; (conv => whnf))
          | (rw [c_tl hr]; (conv => whnf))
          | (rw [c_t7 hr]; (conv => whnf))
          | (rw [c_tf hr (by decide)]; (conv => whnf))
          | (rw [c_t0 hr]; (conv => whnf))
          | (rw [c_t1 hr]; (conv => whnf))
          | (rw [c_t2 hr]; (conv => whnf))
          | (rw [c_t3 hr]; (conv => whnf))
          | (rw [c_t4 hr]; (conv => whnf))
          | (rw [c_t5 hr]; (conv => whnf))
          | (refine And.intro ⟨_, c_tl hr⟩ ?_; (conv => whnf))
          | (refine And.intro (fun c => ?_) (fun c => ?_) <;> (first | (exact absurd c (by decide +kernel)) | (conv => whnf)))
          | fail)
        · refine st ?_
          cases e : t_has (I 38 p) h with
          | false => rfl
          | true =>
            rw [e] at c
            exact absurd c (by decide +kernel)
        · refine sw ?_
          cases e : t_has (I 38 p) h with
          | true => rfl
          | false =>
            rw [e] at c
            exact absurd c (by decide +kernel)
    clear ih
    have out : p = 8 → Q (some (.ref r)) (cW P Z J) := fun e => by
      subst e
      have eA : cA J r = c_bT I := by
        refine g_ext (fun q => p_ic fun h => (hv q h).1) (fun q => p_ic fun h => (hv q h).2.2) (fun q => p_ic fun h => (hv q h).2.1) (fun a q => p_ic fun h => ?_) (fun a => p_ic fun h => hg.2.2.2 a h) (fun a => ?_) hg.2.1
        · rw [hw a q h.1 h.2]
          congr 1
          exact propext ⟨fun z => z.2, fun z => ⟨Or.inl h.2, z⟩⟩
        · show (if a < 9 then decide (J (10 * r) a = nI 2) else false) = false
          split
          · rw [hg.2.2.1 a (by assumption)]
            unfold c_bst
            split
            · exact decide_eq_false (by decide +kernel)
            · exact decide_eq_false (by decide +kernel)
          · rfl
      refine hQ J hg.1 ⟨hr, hg.1.ok hr hok, fun j hj => ?_, fun q => ?_, hg.1.lw hr hlw⟩ eA
      · rw [(hg.1.h hr).1] at hj
        rw [eA, hg.2.2.1 j (by omega), hg.2.1, hg.1 31 (by decide) (by omega) (by omega)]
        show c_bst I j = if false = true then _ else _
        rw [if_neg (by decide)]
        unfold c_bst
        have := hb j hj
        by_cases q : I 31 j = nI 0
        · rw [if_pos ⟨hj, q⟩, if_pos (by rw [q]; exact Int32.le_refl _)]
        · rw [if_neg (fun z => q z.2), if_neg (fun z => q (Int32.le_antisymm z this))]
      · rw [eA]
        constructor
        · show t_m9 (if q < 8 then I 38 q else nI 0)
          split
          · exact hm9 q (by assumption)
          · exact ⟨0, by decide, rfl⟩
        · show (if q < 8 then nM else nI 0) = nM ∨ _
          split
          · exact Or.inl rfl
          · exact Or.inr ⟨0, by decide, if_neg (by assumption)⟩
    have go : p < 8 → X 140 [some (.ref r), some (.int (nI p)), some (.int (nI 0))] [] (cW P Z (xm_u2 (xm_u2 (xm_u2 J (10 * r + 1) p (I 38 p)) (10 * r + 2) p nM) (10 * r + 3) p (I 37 p))) 0 0 := fun hp => inner hp 0 (by omega) _ (((hg.w hrn.1 (by omega) (by omega)).w hrn.1 (by omega) (by omega)).w hrn.1 (by omega) (by omega)) (fun a q ha hq => by rw [xm_u2_ne (by omega), xm_u2_ne (by omega), xm_u2_ne (by omega)]; exact hw a q ha hq) (fun q hq => by
      by_cases e : q = p
      · subst e
        refine ⟨?_, ?_, ?_⟩
        · rw [xm_u2_ne (by omega), xm_u2_ne (by omega), xm_u2_at, if_pos rfl]
        · rw [xm_u2_ne (by omega), xm_u2_at, if_pos rfl]
        · rw [xm_u2_at, if_pos rfl]
      · have := hv q (by omega)
        refine ⟨?_, ?_, ?_⟩
        · rw [xm_u2_ne (by omega), xm_u2_ne (by omega), xm_u2_at, if_neg e]; exact this.1
        · rw [xm_u2_ne (by omega), xm_u2_at, if_neg e, xm_u2_ne (by omega)]; exact this.2.1
        · rw [xm_u2_at, if_neg e, xm_u2_ne (by omega), xm_u2_ne (by omega)]; exact this.2.2)
    clear inner
    have e37 : J 37 p = I 37 p := by rw [hg.1 37 (by decide) (by omega) (by omega)]
    have e38 : J 38 p = I 38 p := by rw [hg.1 38 (by decide) (by omega) (by omega)]
    rcases ho with rfl | ⟨z, rfl⟩
    all_goals
      refine hG _ _ _ _ _ _ ?_
      (conv => whnf)
      repeat' (first
        | ((with_reducible refine @And.intro (vp_in _ _) _ ?_ ?_); (· (first | with_reducible assumption | ((with_reducible refine t_vin ?_); decide) | ((with_reducible refine vp_in_nI ?_ ?_) <;> first | omega | decide) | (simp (disch := omega) only [xl_n, xl_m, nI_dec, nI_sb, nI_add, pk_mul]; (with_reducible refine vp_in_nI ?_ ?_) <;> first | omega | decide))); (conv => whnf))
        | (refine And.intro (by first | with_reducible assumption | exact (show cL _ _ = _ from rfl) | decide) ?_; (conv => whnf))
        | ((with_reducible refine @And.intro (_ = _) _ ?_ ?_); (· rfl); (conv => whnf))
        | ((with_reducible refine @And.intro (@LE.le Nat _ _ _) _ ?_ ?_); (· (first | exact Nat.zero_le _ | exact Nat.le_of_ble_eq_true rfl | omega)); (conv => whnf))
        | ((with_reducible refine @And.intro (@LT.lt Nat _ _ _) _ ?_ ?_); (· omega); (conv => whnf))
        | ((with_reducible refine @And.intro (∃ _, _ = _) _ ?_ ?_); (· exact ⟨_, rfl⟩); (conv => whnf))
        | ((with_reducible refine @And.intro (_ ∨ _) _ ?_ ?_); (· (first | exact Or.inl rfl | exact Or.inr rfl | exact t_b01 _ | assumption)); (conv => whnf))
        | ((with_reducible refine @And.intro (¬ (_ = _)) _ ?_ ?_); (· first | assumption | (with_reducible assumption)); (conv => whnf))
        | (refine hX _ _ _ _ _ _ ?_; (conv => whnf); fail_if_success show False)
        | (rw [c_si]; (conv => whnf))
        | (refine ⟨_, rfl, ?_⟩; (conv => whnf))
        | (refine ⟨_, _, rfl, ?_⟩; (conv => whnf))
        | (refine ⟨_, _, _, rfl, ?_⟩; (conv => whnf))
        | (refine ⟨_, _, _, _, rfl, ?_⟩; (conv => whnf))
        | fail)
      refine And.intro (fun c => ?_) (fun c => ?_) <;> (conv => whnf)
      · have fin := out (Nat.le_antisymm h1 (t_kge (a := nI 8) rfl c (by omega) (by omega)))
        clear go
        repeat' (first
          | ((with_reducible refine @And.intro (vp_in _ _) _ ?_ ?_); (· (first | with_reducible assumption | ((with_reducible refine t_vin ?_); decide) | ((with_reducible refine vp_in_nI ?_ ?_) <;> first | omega | decide) | (simp (disch := omega) only [xl_n, xl_m, nI_dec, nI_sb, nI_add, pk_mul]; (with_reducible refine vp_in_nI ?_ ?_) <;> first | omega | decide))); (conv => whnf))
          | (refine And.intro (by first | with_reducible assumption | exact (show cL _ _ = _ from rfl) | decide) ?_; (conv => whnf))
          | ((with_reducible refine @And.intro (_ = _) _ ?_ ?_); (· rfl); (conv => whnf))
          | ((with_reducible refine @And.intro (@LE.le Nat _ _ _) _ ?_ ?_); (· (first | exact Nat.zero_le _ | exact Nat.le_of_ble_eq_true rfl | omega)); (conv => whnf))
          | ((with_reducible refine @And.intro (@LT.lt Nat _ _ _) _ ?_ ?_); (· omega); (conv => whnf))
          | ((with_reducible refine @And.intro (∃ _, _ = _) _ ?_ ?_); (· exact ⟨_, rfl⟩); (conv => whnf))
          | ((with_reducible refine @And.intro (_ ∨ _) _ ?_ ?_); (· (first | exact Or.inl rfl | exact Or.inr rfl | exact t_b01 _ | assumption)); (conv => whnf))
          | ((with_reducible refine @And.intro (¬ (_ = _)) _ ?_ ?_); (· first | assumption | (with_reducible assumption)); (conv => whnf))
          | (refine hX _ _ _ _ _ _ ?_; (conv => whnf); fail_if_success show False)
          | (rw [c_si]; (conv => whnf))
          | (refine ⟨_, rfl, ?_⟩; (conv => whnf))
          | (refine ⟨_, _, rfl, ?_⟩; (conv => whnf))
          | (refine ⟨_, _, _, rfl, ?_⟩; (conv => whnf))
          | (refine ⟨_, _, _, _, rfl, ?_⟩; (conv => whnf))
          | (refine And.intro (fun c => ?_) (fun c => ?_) <;> (first | (exact absurd c (by decide +kernel)) | (conv => whnf)))
          | fail)
        exact fin
      · have hp : p < 8 := t_klt (a := nI 8) rfl c (by omega)
        have go := go hp
        clear out
        repeat' (first
          | ((with_reducible refine @And.intro (vp_in _ _) _ ?_ ?_); (· (first | with_reducible assumption | ((with_reducible refine t_vin ?_); decide) | ((with_reducible refine vp_in_nI ?_ ?_) <;> first | omega | decide) | (simp (disch := omega) only [xl_n, xl_m, nI_dec, nI_sb, nI_add, pk_mul]; (with_reducible refine vp_in_nI ?_ ?_) <;> first | omega | decide))); (conv => whnf))
          | (refine And.intro (by first | with_reducible assumption | exact (show cL _ _ = _ from rfl) | decide) ?_; (conv => whnf))
          | ((with_reducible refine @And.intro (_ = _) _ ?_ ?_); (· rfl); (conv => whnf))
          | ((with_reducible refine @And.intro (@LE.le Nat _ _ _) _ ?_ ?_); (· (first | exact Nat.zero_le _ | exact Nat.le_of_ble_eq_true rfl | omega)); (conv => whnf))
          | ((with_reducible refine @And.intro (@LT.lt Nat _ _ _) _ ?_ ?_); (· omega); (conv => whnf))
          | ((with_reducible refine @And.intro (∃ _, _ = _) _ ?_ ?_); (· exact ⟨_, rfl⟩); (conv => whnf))
          | ((with_reducible refine @And.intro (_ ∨ _) _ ?_ ?_); (· (first | exact Or.inl rfl | exact Or.inr rfl | exact t_b01 _ | assumption)); (conv => whnf))
          | ((with_reducible refine @And.intro (¬ (_ = _)) _ ?_ ?_); (· first | assumption | (with_reducible assumption)); (conv => whnf))
          | (refine hX _ _ _ _ _ _ ?_; (conv => whnf); fail_if_success show False)
          | (rw [c_si]; simp (disch := omega) only [xl_n, xl_m, nI_dec, nI_sb, xl_0, xl_1, cW_i, Nat.add_zero, Nat.reduceAdd, Nat.reduceMul, t_bn0, t_bn1, Classical.not_not, t_lt, nI_add, nI_1, pk_mul, nI_clamp, c_si, nI_eq, nI_leI, nM_ne, nM_ne, xm_u2_ne, xm_u2_at, reduceIte, Nat.reduceEqDiff]; (conv => whnf))
          | (refine ⟨_, rfl, ?_⟩; (conv => whnf))
          | (refine ⟨_, _, rfl, ?_⟩; (conv => whnf))
          | (refine ⟨_, _, _, rfl, ?_⟩; (conv => whnf))
          | (refine ⟨_, _, _, _, rfl, ?_⟩; (conv => whnf))
          | (rw [c_tl hr]; (conv => whnf))
          | (rw [c_t7 hr]; (conv => whnf))
          | (rw [c_tf hr (by decide)]; (conv => whnf))
          | (rw [c_t0 hr]; (conv => whnf))
          | (rw [c_t1 hr]; (conv => whnf))
          | (rw [c_t2 hr]; (conv => whnf))
          | (rw [c_t3 hr]; (conv => whnf))
          | (rw [c_t4 hr]; (conv => whnf))
          | (rw [c_t5 hr]; (conv => whnf))
          | (refine And.intro ⟨_, c_tl hr⟩ ?_; (conv => whnf))
          | (refine And.intro (fun c => ?_) (fun c => ?_) <;> (first | (exact absurd c (by decide +kernel)) | (conv => whnf)))
          | fail)
        rw [e38, e37]
        clear hX hG
        simp (disch := omega) only [xl_n, xl_m, nI_dec, nI_sb, xl_0, xl_1, cW_i, Nat.add_zero, Nat.reduceAdd, Nat.reduceMul, t_bn0, t_bn1, Classical.not_not, t_lt, nI_add, nI_1, pk_mul, nI_clamp, c_si, nI_eq, nI_leI, nM_ne, nM_ne, xm_set] at *
        exact go
  have l68 : ∀ k, k ≤ 72 → ∀ J, c_bg r I J → (∀ j, j < k → J (10 * r + 4) j = nM) → X 68 [some (.ref r), some (.int (nI k)), none] [] (cW P Z J) 0 0 := by
    refine t_for fun k h1 ih J hg hv => ?_
    have ih := fun q => ih (k + 1) (by omega) q
    have out : k = 72 → X 89 [some (.ref r), some (.int (nI 0)), none] [] (cW P Z J) 0 0 := fun e => l89 0 (by omega) J none (Or.inl rfl) hg (fun a q ha hq => by
      rw [hv _ (by omega), if_neg]
      rintro ⟨h1 | h1, -⟩
      · omega
      · omega) (fun q hq => by omega)
    clear l89
    refine hG _ _ _ _ _ _ ?_
    (conv => whnf)
    repeat' (first
      | ((with_reducible refine @And.intro (vp_in _ _) _ ?_ ?_); (· (first | with_reducible assumption | ((with_reducible refine t_vin ?_); decide) | ((with_reducible refine vp_in_nI ?_ ?_) <;> first | omega | decide) | (simp (disch := omega) only [xl_n, xl_m, nI_dec, nI_sb, nI_add, pk_mul]; (with_reducible refine vp_in_nI ?_ ?_) <;> first | omega | decide))); (conv => whnf))
      | (refine And.intro (by first | with_reducible assumption | exact (show cL _ _ = _ from rfl) | decide) ?_; (conv => whnf))
      | ((with_reducible refine @And.intro (_ = _) _ ?_ ?_); (· rfl); (conv => whnf))
      | ((with_reducible refine @And.intro (@LE.le Nat _ _ _) _ ?_ ?_); (· (first | exact Nat.zero_le _ | exact Nat.le_of_ble_eq_true rfl | omega)); (conv => whnf))
      | ((with_reducible refine @And.intro (@LT.lt Nat _ _ _) _ ?_ ?_); (· omega); (conv => whnf))
      | ((with_reducible refine @And.intro (∃ _, _ = _) _ ?_ ?_); (· exact ⟨_, rfl⟩); (conv => whnf))
      | ((with_reducible refine @And.intro (_ ∨ _) _ ?_ ?_); (· (first | exact Or.inl rfl | exact Or.inr rfl | exact t_b01 _ | assumption)); (conv => whnf))
      | ((with_reducible refine @And.intro (¬ (_ = _)) _ ?_ ?_); (· first | assumption | (with_reducible assumption)); (conv => whnf))
      | (refine hX _ _ _ _ _ _ ?_; (conv => whnf); fail_if_success show False)
      | (rw [c_si]; (conv => whnf))
      | (refine ⟨_, rfl, ?_⟩; (conv => whnf))
      | (refine ⟨_, _, rfl, ?_⟩; (conv => whnf))
      | (refine ⟨_, _, _, rfl, ?_⟩; (conv => whnf))
      | (refine ⟨_, _, _, _, rfl, ?_⟩; (conv => whnf))
      | fail)
    refine And.intro (fun c => ?_) (fun c => ?_) <;> (conv => whnf)
    · have fin := out (Nat.le_antisymm h1 (t_kge (a := nI 72) rfl c (by omega) (by omega)))
      clear ih
      repeat' (first
        | ((with_reducible refine @And.intro (vp_in _ _) _ ?_ ?_); (· (first | with_reducible assumption | ((with_reducible refine t_vin ?_); decide) | ((with_reducible refine vp_in_nI ?_ ?_) <;> first | omega | decide) | (simp (disch := omega) only [xl_n, xl_m, nI_dec, nI_sb, nI_add, pk_mul]; (with_reducible refine vp_in_nI ?_ ?_) <;> first | omega | decide))); (conv => whnf))
        | (refine And.intro (by first | with_reducible assumption | exact (show cL _ _ = _ from rfl) | decide) ?_; (conv => whnf))
        | ((with_reducible refine @And.intro (_ = _) _ ?_ ?_); (· rfl); (conv => whnf))
        | ((with_reducible refine @And.intro (@LE.le Nat _ _ _) _ ?_ ?_); (· (first | exact Nat.zero_le _ | exact Nat.le_of_ble_eq_true rfl | omega)); (conv => whnf))
        | ((with_reducible refine @And.intro (@LT.lt Nat _ _ _) _ ?_ ?_); (· omega); (conv => whnf))
        | ((with_reducible refine @And.intro (∃ _, _ = _) _ ?_ ?_); (· exact ⟨_, rfl⟩); (conv => whnf))
        | ((with_reducible refine @And.intro (_ ∨ _) _ ?_ ?_); (· (first | exact Or.inl rfl | exact Or.inr rfl | exact t_b01 _ | assumption)); (conv => whnf))
        | ((with_reducible refine @And.intro (¬ (_ = _)) _ ?_ ?_); (· first | assumption | (with_reducible assumption)); (conv => whnf))
        | (refine hX _ _ _ _ _ _ ?_; (conv => whnf); fail_if_success show False)
        | (rw [c_si]; (conv => whnf))
        | (refine ⟨_, rfl, ?_⟩; (conv => whnf))
        | (refine ⟨_, _, rfl, ?_⟩; (conv => whnf))
        | (refine ⟨_, _, _, rfl, ?_⟩; (conv => whnf))
        | (refine ⟨_, _, _, _, rfl, ?_⟩; (conv => whnf))
        | (refine And.intro (fun c => ?_) (fun c => ?_) <;> (first | (exact absurd c (by decide +kernel)) | (conv => whnf)))
        | fail)
      clear hX hG
      simp (disch := omega) only [xl_n, xl_m, nI_dec, nI_sb, xl_0, xl_1, cW_i, Nat.add_zero, Nat.reduceAdd, Nat.reduceMul, t_bn0, t_bn1, Classical.not_not, t_lt, nI_add, nI_1, pk_mul, nI_clamp, c_si, nI_eq, nI_leI, nM_ne, nM_ne, xm_set] at *
      exact fin
    · have hk : k < 72 := t_klt (a := nI 72) rfl c (by omega)
      have fin := ih (by omega) (xm_u2 J (10 * r + 4) k nM) (hg.w hrn.1 (by omega) (by omega)) (fun j hj => by
        rw [xm_u2_at]
        by_cases e : j = k
        · rw [if_pos e]
        · rw [if_neg e]
          exact hv j (by omega))
      clear ih out
      repeat' (first
        | ((with_reducible refine @And.intro (vp_in _ _) _ ?_ ?_); (· (first | with_reducible assumption | ((with_reducible refine t_vin ?_); decide) | ((with_reducible refine vp_in_nI ?_ ?_) <;> first | omega | decide) | (simp (disch := omega) only [xl_n, xl_m, nI_dec, nI_sb, nI_add, pk_mul]; (with_reducible refine vp_in_nI ?_ ?_) <;> first | omega | decide))); (conv => whnf))
        | (refine And.intro (by first | with_reducible assumption | exact (show cL _ _ = _ from rfl) | decide) ?_; (conv => whnf))
        | ((with_reducible refine @And.intro (_ = _) _ ?_ ?_); (· rfl); (conv => whnf))
        | ((with_reducible refine @And.intro (@LE.le Nat _ _ _) _ ?_ ?_); (· (first | exact Nat.zero_le _ | exact Nat.le_of_ble_eq_true rfl | omega)); (conv => whnf))
        | ((with_reducible refine @And.intro (@LT.lt Nat _ _ _) _ ?_ ?_); (· omega); (conv => whnf))
        | ((with_reducible refine @And.intro (∃ _, _ = _) _ ?_ ?_); (· exact ⟨_, rfl⟩); (conv => whnf))
        | ((with_reducible refine @And.intro (_ ∨ _) _ ?_ ?_); (· (first | exact Or.inl rfl | exact Or.inr rfl | exact t_b01 _ | assumption)); (conv => whnf))
        | ((with_reducible refine @And.intro (¬ (_ = _)) _ ?_ ?_); (· first | assumption | (with_reducible assumption)); (conv => whnf))
        | (refine hX _ _ _ _ _ _ ?_; (conv => whnf); fail_if_success show False)
        | (rw [c_si]; simp (disch := omega) only [xl_n, xl_m, nI_dec, nI_sb, xl_0, xl_1, cW_i, Nat.add_zero, Nat.reduceAdd, Nat.reduceMul, t_bn0, t_bn1, Classical.not_not, t_lt, nI_add, nI_1, pk_mul, nI_clamp, c_si, nI_eq, nI_leI, nM_ne, nM_ne, xm_u2_ne, xm_u2_at, reduceIte, Nat.reduceEqDiff]; (conv => whnf))
        | (refine ⟨_, rfl, ?_⟩; (conv => whnf))
        | (refine ⟨_, _, rfl, ?_⟩; (conv => whnf))
        | (refine ⟨_, _, _, rfl, ?_⟩; (conv => whnf))
        | (refine ⟨_, _, _, _, rfl, ?_⟩; (conv => whnf))
        | (rw [c_tl hr]; (conv => whnf))
        | (rw [c_t7 hr]; (conv => whnf))
        | (rw [c_tf hr (by decide)]; (conv => whnf))
        | (rw [c_t0 hr]; (conv => whnf))
        | (rw [c_t1 hr]; (conv => whnf))
        | (rw [c_t2 hr]; (conv => whnf))
        | (rw [c_t3 hr]; (conv => whnf))
        | (rw [c_t4 hr]; (conv => whnf))
        | (rw [c_t5 hr]; (conv => whnf))
        | (refine And.intro ⟨_, c_tl hr⟩ ?_; (conv => whnf))
        | (refine And.intro (fun c => ?_) (fun c => ?_) <;> (first | (exact absurd c (by decide +kernel)) | (conv => whnf)))
        | fail)
      clear hX hG
      simp (disch := omega) only [xl_n, xl_m, nI_dec, nI_sb, xl_0, xl_1, cW_i, Nat.add_zero, Nat.reduceAdd, Nat.reduceMul, t_bn0, t_bn1, Classical.not_not, t_lt, nI_add, nI_1, pk_mul, nI_clamp, c_si, nI_eq, nI_leI, nM_ne, nM_ne, xm_set] at *
      exact fin
  have l7 : ∀ k, k ≤ 9 → ∀ J, c_sc r I J → J r 6 = nI 0 → (∀ j, j < k → J (10 * r) j = c_bst I j ∧ J (10 * r + 5) j = nM) → X 7 [some (.ref r), some (.int (nI k)), none] [] (cW P Z J) 0 0 := by
    refine t_for fun k h1 ih J hJ h6 hv => ?_
    have ih := fun q => ih (k + 1) (by omega) q
    have out : k = 9 → X 68 [some (.ref r), some (.int (nI 0)), none] [] (cW P Z J) 0 0 := fun e => l68 0 (by omega) J ⟨hJ, h6, fun j hj => (hv j (by omega)).1, fun j hj => (hv j (by omega)).2⟩ (fun j hj => by omega)
    clear l89 l68
    refine hG _ _ _ _ _ _ ?_
    (conv => whnf)
    repeat' (first
      | ((with_reducible refine @And.intro (vp_in _ _) _ ?_ ?_); (· (first | with_reducible assumption | ((with_reducible refine t_vin ?_); decide) | ((with_reducible refine vp_in_nI ?_ ?_) <;> first | omega | decide) | (simp (disch := omega) only [xl_n, xl_m, nI_dec, nI_sb, nI_add, pk_mul]; (with_reducible refine vp_in_nI ?_ ?_) <;> first | omega | decide))); (conv => whnf))
      | (refine And.intro (by first | with_reducible assumption | exact (show cL _ _ = _ from rfl) | decide) ?_; (conv => whnf))
      | ((with_reducible refine @And.intro (_ = _) _ ?_ ?_); (· rfl); (conv => whnf))
      | ((with_reducible refine @And.intro (@LE.le Nat _ _ _) _ ?_ ?_); (· (first | exact Nat.zero_le _ | exact Nat.le_of_ble_eq_true rfl | omega)); (conv => whnf))
      | ((with_reducible refine @And.intro (@LT.lt Nat _ _ _) _ ?_ ?_); (· omega); (conv => whnf))
      | ((with_reducible refine @And.intro (∃ _, _ = _) _ ?_ ?_); (· exact ⟨_, rfl⟩); (conv => whnf))
      | ((with_reducible refine @And.intro (_ ∨ _) _ ?_ ?_); (· (first | exact Or.inl rfl | exact Or.inr rfl | exact t_b01 _ | assumption)); (conv => whnf))
      | ((with_reducible refine @And.intro (¬ (_ = _)) _ ?_ ?_); (· first | assumption | (with_reducible assumption)); (conv => whnf))
      | (refine hX _ _ _ _ _ _ ?_; (conv => whnf); fail_if_success show False)
      | (rw [c_si]; (conv => whnf))
      | (refine ⟨_, rfl, ?_⟩; (conv => whnf))
      | (refine ⟨_, _, rfl, ?_⟩; (conv => whnf))
      | (refine ⟨_, _, _, rfl, ?_⟩; (conv => whnf))
      | (refine ⟨_, _, _, _, rfl, ?_⟩; (conv => whnf))
      | fail)
    refine And.intro (fun c => ?_) (fun c => ?_) <;> (conv => whnf)
    · have fin := out (Nat.le_antisymm h1 (t_kge (a := nI 9) rfl c (by omega) (by omega)))
      clear ih
      repeat' (first
        | ((with_reducible refine @And.intro (vp_in _ _) _ ?_ ?_); (· (first | with_reducible assumption | ((with_reducible refine t_vin ?_); decide) | ((with_reducible refine vp_in_nI ?_ ?_) <;> first | omega | decide) | (simp (disch := omega) only [xl_n, xl_m, nI_dec, nI_sb, nI_add, pk_mul]; (with_reducible refine vp_in_nI ?_ ?_) <;> first | omega | decide))); (conv => whnf))
        | (refine And.intro (by first | with_reducible assumption | exact (show cL _ _ = _ from rfl) | decide) ?_; (conv => whnf))
        | ((with_reducible refine @And.intro (_ = _) _ ?_ ?_); (· rfl); (conv => whnf))
        | ((with_reducible refine @And.intro (@LE.le Nat _ _ _) _ ?_ ?_); (· (first | exact Nat.zero_le _ | exact Nat.le_of_ble_eq_true rfl | omega)); (conv => whnf))
        | ((with_reducible refine @And.intro (@LT.lt Nat _ _ _) _ ?_ ?_); (· omega); (conv => whnf))
        | ((with_reducible refine @And.intro (∃ _, _ = _) _ ?_ ?_); (· exact ⟨_, rfl⟩); (conv => whnf))
        | ((with_reducible refine @And.intro (_ ∨ _) _ ?_ ?_); (· (first | exact Or.inl rfl | exact Or.inr rfl | exact t_b01 _ | assumption)); (conv => whnf))
        | ((with_reducible refine @And.intro (¬ (_ = _)) _ ?_ ?_); (· first | assumption | (with_reducible assumption)); (conv => whnf))
        | (refine hX _ _ _ _ _ _ ?_; (conv => whnf); fail_if_success show False)
        | (rw [c_si]; (conv => whnf))
        | (refine ⟨_, rfl, ?_⟩; (conv => whnf))
        | (refine ⟨_, _, rfl, ?_⟩; (conv => whnf))
        | (refine ⟨_, _, _, rfl, ?_⟩; (conv => whnf))
        | (refine ⟨_, _, _, _, rfl, ?_⟩; (conv => whnf))
        | (refine And.intro (fun c => ?_) (fun c => ?_) <;> (first | (exact absurd c (by decide +kernel)) | (conv => whnf)))
        | fail)
      clear hX hG
      simp (disch := omega) only [xl_n, xl_m, nI_dec, nI_sb, xl_0, xl_1, cW_i, Nat.add_zero, Nat.reduceAdd, Nat.reduceMul, t_bn0, t_bn1, Classical.not_not, t_lt, nI_add, nI_1, pk_mul, nI_clamp, c_si, nI_eq, nI_leI, nM_ne, nM_ne, xm_set] at *
      exact fin
    · have hk : k < 9 := t_klt (a := nI 9) rfl c (by omega)
      have nx : ∀ v, v = c_bst I k → X 7 [some (.ref r), some (.int (nI (k + 1))), none] [] (cW P Z (xm_u2 (xm_u2 J (10 * r) k v) (10 * r + 5) k nM)) 0 0 := fun v ev => ih (by omega) _ ((hJ.tr (c_sc.u (by omega))).tr (c_sc.u (by omega))) (by rw [xm_u2_ne (by omega), xm_u2_ne (by omega)]; exact h6) (fun j hj => by
        by_cases e : j = k
        · subst e
          exact ⟨by rw [xm_u2_ne (by omega), xm_u2_at, if_pos rfl, ev], by rw [xm_u2_at, if_pos rfl]⟩
        · have := hv j (by omega)
          exact ⟨by rw [xm_u2_ne (by omega), xm_u2_at, if_neg e]; exact this.1, by rw [xm_u2_at, if_neg e, xm_u2_ne (by omega)]; exact this.2⟩)
      clear ih out
      have e31 : J 31 k = I 31 k := by rw [hJ 31 (by decide) (by omega) (by omega)]
      have e11 : J 1 11 = nI (c_h I) := by rw [hJ.e1 hr]; exact hn
      repeat' (first
        | ((with_reducible refine @And.intro (vp_in _ _) _ ?_ ?_); (· (first | with_reducible assumption | ((with_reducible refine t_vin ?_); decide) | ((with_reducible refine vp_in_nI ?_ ?_) <;> first | omega | decide) | (simp (disch := omega) only [xl_n, xl_m, nI_dec, nI_sb, nI_add, pk_mul]; (with_reducible refine vp_in_nI ?_ ?_) <;> first | omega | decide))); (conv => whnf))
        | (refine And.intro (by first | with_reducible assumption | exact (show cL _ _ = _ from rfl) | decide) ?_; (conv => whnf))
        | ((with_reducible refine @And.intro (_ = _) _ ?_ ?_); (· rfl); (conv => whnf))
        | ((with_reducible refine @And.intro (@LE.le Nat _ _ _) _ ?_ ?_); (· (first | exact Nat.zero_le _ | exact Nat.le_of_ble_eq_true rfl | omega)); (conv => whnf))
        | ((with_reducible refine @And.intro (@LT.lt Nat _ _ _) _ ?_ ?_); (· omega); (conv => whnf))
        | ((with_reducible refine @And.intro (∃ _, _ = _) _ ?_ ?_); (· exact ⟨_, rfl⟩); (conv => whnf))
        | ((with_reducible refine @And.intro (_ ∨ _) _ ?_ ?_); (· (first | exact Or.inl rfl | exact Or.inr rfl | exact t_b01 _ | assumption)); (conv => whnf))
        | ((with_reducible refine @And.intro (¬ (_ = _)) _ ?_ ?_); (· first | assumption | (with_reducible assumption)); (conv => whnf))
        | (refine hX _ _ _ _ _ _ ?_; (conv => whnf); fail_if_success show False)
        | (rw [c_si]; simp (disch := omega) only [xl_n, xl_m, nI_dec, nI_sb, xl_0, xl_1, cW_i, Nat.add_zero, Nat.reduceAdd, Nat.reduceMul, t_bn0, t_bn1, Classical.not_not, t_lt, nI_add, nI_1, pk_mul, nI_clamp, c_si, nI_eq, nI_leI, nM_ne, nM_ne, xm_u2_ne, xm_u2_at, reduceIte, Nat.reduceEqDiff]; (conv => whnf))
        | (refine ⟨_, rfl, ?_⟩; (conv => whnf))
        | (refine ⟨_, _, rfl, ?_⟩; (conv => whnf))
        | (refine ⟨_, _, _, rfl, ?_⟩; (conv => whnf))
        | (refine ⟨_, _, _, _, rfl, ?_⟩; (conv => whnf))
        | (rw [c_tl hr]; (conv => whnf))
        | (rw [c_t7 hr]; (conv => whnf))
        | (rw [c_tf hr (by decide)]; (conv => whnf))
        | (rw [c_t0 hr]; (conv => whnf))
        | (rw [c_t1 hr]; (conv => whnf))
        | (rw [c_t2 hr]; (conv => whnf))
        | (rw [c_t3 hr]; (conv => whnf))
        | (rw [c_t4 hr]; (conv => whnf))
        | (rw [c_t5 hr]; (conv => whnf))
        | (refine And.intro ⟨_, c_tl hr⟩ ?_; (conv => whnf))
        | (refine And.intro (fun c => ?_) (fun c => ?_) <;> (first | (exact absurd c (by decide +kernel)) | (conv => whnf)))
        | fail)
      · have c1 : J 1 11 ≤ nI k := c
        rw [e11] at c1
        have hk2 : c_h I ≤ k := (nI_leI (by omega) (by omega)).mp c1
        have fin := nx (nI 0) (by
          unfold c_bst
          rw [if_neg (fun z => by omega)])
        clear hX hG
        simp (disch := omega) only [xl_n, xl_m, nI_dec, nI_sb, xl_0, xl_1, cW_i, Nat.add_zero, Nat.reduceAdd, Nat.reduceMul, t_bn0, t_bn1, Classical.not_not, t_lt, nI_add, nI_1, pk_mul, nI_clamp, c_si, nI_eq, nI_leI, nM_ne, nM_ne, xm_set] at *
        exact fin
      · have c1 : ¬ J 31 (nI k).toNatClampNeg = nI 0 := c
        rw [nI_clamp (by omega), e31] at c1
        have fin := nx (nI 0) (by
          unfold c_bst
          rw [if_neg (fun z => c1 z.2)])
        clear hX hG
        simp (disch := omega) only [xl_n, xl_m, nI_dec, nI_sb, xl_0, xl_1, cW_i, Nat.add_zero, Nat.reduceAdd, Nat.reduceMul, t_bn0, t_bn1, Classical.not_not, t_lt, nI_add, nI_1, pk_mul, nI_clamp, c_si, nI_eq, nI_leI, nM_ne, nM_ne, xm_set] at *
        exact fin
      · have c1 : ¬ ¬ J 31 (nI k).toNatClampNeg = nI 0 := c
        rw [nI_clamp (by omega), e31] at c1
        have c2 := (by assumption : ¬ (fun x y : Int32 => y ≤ x) (nI k) ((cW P Z J).2.1 1 11))
        have hk2 : k < c_h I := t_klt e11 c2 (by omega)
        have fin := nx (nI 1) (by
          unfold c_bst
          rw [if_pos ⟨hk2, Classical.not_not.mp c1⟩])
        clear hX hG
        simp (disch := omega) only [xl_n, xl_m, nI_dec, nI_sb, xl_0, xl_1, cW_i, Nat.add_zero, Nat.reduceAdd, Nat.reduceMul, t_bn0, t_bn1, Classical.not_not, t_lt, nI_add, nI_1, pk_mul, nI_clamp, c_si, nI_eq, nI_leI, nM_ne, nM_ne, xm_set] at *
        exact fin
  have fin := l7 0 (by omega) (xm_u2 I r 6 (nI 0)) (c_sc.u (by omega)) (by rw [xm_u2_at, if_pos rfl]) (fun j hj => by omega)
  clear l89 l68 l7
  refine ⟨rfl, ?_⟩
  repeat' (first
    | ((with_reducible refine @And.intro (vp_in _ _) _ ?_ ?_); (· (first | with_reducible assumption | ((with_reducible refine t_vin ?_); decide) | ((with_reducible refine vp_in_nI ?_ ?_) <;> first | omega | decide) | (simp (disch := omega) only [xl_n, xl_m, nI_dec, nI_sb, nI_add, pk_mul]; (with_reducible refine vp_in_nI ?_ ?_) <;> first | omega | decide))); (conv => whnf))
    | (refine And.intro (by first | with_reducible assumption | exact (show cL _ _ = _ from rfl) | decide) ?_; (conv => whnf))
    | ((with_reducible refine @And.intro (_ = _) _ ?_ ?_); (· rfl); (conv => whnf))
    | ((with_reducible refine @And.intro (@LE.le Nat _ _ _) _ ?_ ?_); (· (first | exact Nat.zero_le _ | exact Nat.le_of_ble_eq_true rfl | omega)); (conv => whnf))
    | ((with_reducible refine @And.intro (@LT.lt Nat _ _ _) _ ?_ ?_); (· omega); (conv => whnf))
    | ((with_reducible refine @And.intro (∃ _, _ = _) _ ?_ ?_); (· exact ⟨_, rfl⟩); (conv => whnf))
    | ((with_reducible refine @And.intro (_ ∨ _) _ ?_ ?_); (· (first | exact Or.inl rfl | exact Or.inr rfl | exact t_b01 _ | assumption)); (conv => whnf))
    | ((with_reducible refine @And.intro (¬ (_ = _)) _ ?_ ?_); (· first | assumption | (with_reducible assumption)); (conv => whnf))
    | (refine hX _ _ _ _ _ _ ?_; (conv => whnf); fail_if_success show False)
    | (rw [c_si]; (conv => whnf))
    | (refine ⟨_, rfl, ?_⟩; (conv => whnf))
    | (refine ⟨_, _, rfl, ?_⟩; (conv => whnf))
    | (refine ⟨_, _, _, rfl, ?_⟩; (conv => whnf))
    | (refine ⟨_, _, _, _, rfl, ?_⟩; (conv => whnf))
    | (rw [c_tl hr]; (conv => whnf))
    | (rw [c_t7 hr]; (conv => whnf))
    | (rw [c_tf hr (by decide)]; (conv => whnf))
    | (rw [c_t0 hr]; (conv => whnf))
    | (rw [c_t1 hr]; (conv => whnf))
    | (rw [c_t2 hr]; (conv => whnf))
    | (rw [c_t3 hr]; (conv => whnf))
    | (rw [c_t4 hr]; (conv => whnf))
    | (rw [c_t5 hr]; (conv => whnf))
    | (refine And.intro ⟨_, c_tl hr⟩ ?_; (conv => whnf))
    | (refine And.intro (fun c => ?_) (fun c => ?_) <;> (first | (exact absurd c (by decide +kernel)) | (conv => whnf)))
    | fail)
  exact fin
theorem ct_X10_begins : xm_Ct cI yX10_begins (ws_ yX10_begins cX10_begins 3 (some (.object "PuppetHeirs$Troupe"))) 2 0 0 S_X10_begins := xm_enter (rt := 3) (init := false) (by decide +kernel) rfl (fun h => by cases h) (Or.inr (Or.inr (Or.inr (Or.inl ⟨rfl, Or.inl ⟨_, rfl⟩⟩)))) (oX10_begins) body_X10_begins
theorem cv_X10_begins {own : String} {cc : ByteArray} {fr pc idx : Nat} (hdg : decode cc pc = .ok (.invokevirtual idx, 3)) (hl : xm_ml own idx yX10_begins) (hfr : 2 < fr) : xm_CallOK cI own cc fr pc (pc + 3) 1 0 0 (xm_this 7 S_X10_begins) := xm_callV 7 cI_good (ct_X10_begins) hdg hl q700 q701 q144 q702 rfl rfl (by decide +kernel) hfr (by decide)

/-! ===== the component: nights ===== -/
set_option maxRecDepth 100000
set_option maxHeartbeats 1000000
/-- only the nights change -/
def c_ng (I J : tI) : Prop := ∀ b : Nat, b ≠ 21 → J b = I b
theorem c_ng.rf {I : tI} : c_ng I I := fun _ _ => rfl
theorem c_ng.tr {I J K : tI} (h : c_ng I J) (h2 : c_ng J K) : c_ng I K := fun b a => (h2 b a).trans (h b a)
theorem c_ng.u {I : tI} {k : Nat} {v : Int32} : c_ng I (xm_u2 I 21 k v) := fun b h => funext fun j => xm_u2_ne h j
theorem c_ng.sp {I J : tI} (h : c_ng I J) : c_sp I J := ⟨fun b b0 hf => h b (fun e => hf (by subst e; unfold c_free; omega)), fun k _ _ _ => by rw [h 0 (by omega)]⟩
/-- what is said of the first nights -/
def c_npre (I : tI) (pre : List Int32) : Prop := ∀ j, j < pre.length → I 21 j = pre.getD j (nI 0)
theorem getD_app {pre : List Int32} {v : Int32} {j : Nat} : (pre ++ [v]).getD j (nI 0) = if j < pre.length then pre.getD j (nI 0) else if j = pre.length then v else nI 0 := by
  by_cases q : j < pre.length
  · rw [if_pos q]
    simp [List.getD, List.getElem?_append_left q]
  · rw [if_neg q]
    by_cases e : j = pre.length
    · rw [if_pos e, e]
      simp [List.getD]
    · rw [if_neg e]
      simp [List.getD, List.getElem?_append_right (show pre.length ≤ j by omega), show ¬ j - pre.length = 0 by omega]
theorem c_npre.put {I : tI} {pre : List Int32} {v : Int32} (h : c_npre I pre) : c_npre (xm_u2 I 21 pre.length v) (pre ++ [v]) := fun j hj => by
  rw [List.length_append] at hj
  have hj : j < pre.length + 1 := hj
  rw [xm_u2_at, getD_app]
  by_cases q : j = pre.length
  · rw [if_pos q, if_neg (by omega), if_pos q]
  · rw [if_neg q, if_pos (by omega)]
    exact h j (by omega)
def S_X1_fitsOn (d : Nat) : xS := match d with
  | 0 => fun _ _ _ _ => False
  | d + 1 => cU fun as P Z I Q QX => ∃ (many : Nat) (L : List lC) (pre : List Int32), as = [.ref 0, .int (nI pre.length), .int (nI many)] ∧ c_good P Z I L ∧ g_ok (cG P I L) ∧ many < 1000 ∧ pre.length ≤ c_h I ∧ c_h I - pre.length ≤ d ∧ c_npre I pre ∧ (g_seat (cG P I L) many (c_h I - pre.length) pre = none → ∀ J, c_ng I J → (∀ j, j < pre.length → J 21 j = I 21 j) → Q (some (.int (t_b false))) J) ∧ ∀ r, g_seat (cG P I L) many (c_h I - pre.length) pre = some r → ∀ J, c_ng I J → c_npre J r → Q (some (.int (t_b true))) J
abbrev bX1_fitsOn_0 : List xE := [(.iload_n 1, 1, 0, 0, 0), (.aload_n 0, 2, 0, 0, 0), (.getfield 31, 5, 0, 0, 1), (.getfield 126, 8, 1, 11, 0), (.if_icmp .ne 5, 11, 0, 13, 0), (.iconst 1, 12, 0, 0, 0), (.ireturn, 13, 0, 0, 0)]
abbrev bX1_fitsOn_13 : List xE := [(.aload_n 0, 14, 0, 0, 0), (.getfield 92, 17, 0, 21, 1), (.iload_n 1, 18, 0, 0, 0), (.iconst (-1), 19, 0, 0, 0), (.iastore, 20, 0, 0, 0), (.aload_n 0, 21, 0, 0, 0), (.getfield 58, 24, 0, 5, 1), (.getfield 226, 27, 7, 0, 1), (.iload_n 1, 28, 0, 0, 0), (.iaload, 29, 0, 0, 0), (.iconst 1, 30, 0, 0, 0), (.if_icmp .eq 12, 33, 0, 42, 0), (.aload_n 0, 34, 0, 0, 0), (.iload_n 1, 35, 0, 0, 0), (.iconst 1, 36, 0, 0, 0), (.iadd, 37, 0, 0, 0), (.iload_n 2, 38, 0, 0, 0), (.invokevirtual 362, 41, 0, 0, 9), (.ireturn, 42, 0, 0, 0)]
abbrev bX1_fitsOn_42 : List xE := [(.iconst 0, 43, 0, 0, 0), (.istore_n 3, 44, 0, 0, 0)]
abbrev bX1_fitsOn_44 : List xE := [(.iload_n 3, 45, 0, 0, 0), (.iload_n 2, 46, 0, 0, 0), (.if_icmp .ge 102, 49, 0, 148, 0), (.iconst 1, 50, 0, 0, 0), (.istore 4, 52, 0, 0, 0), (.iconst 0, 53, 0, 0, 0), (.istore 5, 55, 0, 0, 0)]
abbrev bX1_fitsOn_55 : List xE := [(.iload 5, 57, 0, 0, 0), (.iload_n 1, 58, 0, 0, 0), (.if_icmp .ge 49, 61, 0, 107, 0), (.iload 4, 63, 0, 0, 0), (.ifCond .eq 35, 66, 0, 98, 0), (.aload_n 0, 67, 0, 0, 0), (.getfield 92, 70, 0, 21, 1), (.iload 5, 72, 0, 0, 0), (.iaload, 73, 0, 0, 0), (.iload_n 3, 74, 0, 0, 0), (.if_icmp .ne 20, 77, 0, 94, 0), (.aload_n 0, 78, 0, 0, 0), (.getfield 31, 81, 0, 0, 1), (.getfield 322, 84, 1, 3, 1), (.iload_n 1, 85, 0, 0, 0), (.iaload, 86, 0, 0, 0), (.iload 5, 88, 0, 0, 0), (.ishr, 89, 0, 0, 0), (.iconst 1, 90, 0, 0, 0), (.iand, 91, 0, 0, 0), (.ifCond .ne 7, 94, 0, 98, 0)]
abbrev bX1_fitsOn_94 : List xE := [(.iconst 1, 95, 0, 0, 0), (.goto 4, 98, 0, 99, 0)]
abbrev bX1_fitsOn_98 : List xE := [(.iconst 0, 99, 0, 0, 0)]
abbrev bX1_fitsOn_99 : List xE := [(.istore 4, 101, 0, 0, 0), (.iinc 5 1, 104, 0, 0, 0), (.goto (-49), 107, 0, 55, 0)]
abbrev bX1_fitsOn_107 : List xE := [(.iload 4, 109, 0, 0, 0), (.ifCond .ne 6, 112, 0, 115, 0), (.goto 30, 115, 0, 142, 0)]
abbrev bX1_fitsOn_115 : List xE := [(.aload_n 0, 116, 0, 0, 0), (.getfield 92, 119, 0, 21, 1), (.iload_n 1, 120, 0, 0, 0), (.iload_n 3, 121, 0, 0, 0), (.iastore, 122, 0, 0, 0), (.aload_n 0, 123, 0, 0, 0), (.iload_n 1, 124, 0, 0, 0), (.iconst 1, 125, 0, 0, 0), (.iadd, 126, 0, 0, 0), (.iload_n 2, 127, 0, 0, 0), (.invokevirtual 362, 130, 0, 0, 9), (.ifCond .eq 5, 133, 0, 135, 0), (.iconst 1, 134, 0, 0, 0), (.ireturn, 135, 0, 0, 0)]
abbrev bX1_fitsOn_135 : List xE := [(.aload_n 0, 136, 0, 0, 0), (.getfield 92, 139, 0, 21, 1), (.iload_n 1, 140, 0, 0, 0), (.iconst (-1), 141, 0, 0, 0), (.iastore, 142, 0, 0, 0)]
abbrev bX1_fitsOn_142 : List xE := [(.iinc 3 1, 145, 0, 0, 0), (.goto (-101), 148, 0, 44, 0)]
abbrev bX1_fitsOn_148 : List xE := [(.iconst 0, 149, 0, 0, 0), (.ireturn, 150, 0, 0, 0)]
abbrev kX1_fitsOn : List (Nat × List xE) := [(0, bX1_fitsOn_0), (13, bX1_fitsOn_13), (42, bX1_fitsOn_42), (44, bX1_fitsOn_44), (55, bX1_fitsOn_55), (94, bX1_fitsOn_94), (98, bX1_fitsOn_98), (99, bX1_fitsOn_99), (107, bX1_fitsOn_107), (115, bX1_fitsOn_115), (135, bX1_fitsOn_135), (142, bX1_fitsOn_142), (148, bX1_fitsOn_148)]
abbrev lX1_fitsOn (d : Nat) : List (Nat × Nat × Nat × xS) := [(3, 0, 0, (xm_this 0 (S_X1_fitsOn d)))]
theorem oX1_fitsOn_0 (d : Nat)  (ih_X1_fitsOn : xm_Ct cI yX1_fitsOn (ws_ yX1_fitsOn cX1_fitsOn 6 (some .boolean)) (d + 9) 0 0 (S_X1_fitsOn d)): xm_okb cI RX1 cX1_fitsOn false (d + 10) (lX1_fitsOn d) bX1_fitsOn_0 0 := xo_0 dX1_fitsOn_0 rfl trivial (xo_0 dX1_fitsOn_1 rfl trivial (xo_1 dX1_fitsOn_2 rfl (xm_fg_of (Or.inl q716) (by decide) rfl (by decide) rfl rfl (Or.inl rfl) rfl) (xo_0 dX1_fitsOn_5 rfl (xm_fg_of (Or.inr ⟨_, q556⟩) (by decide) rfl (by decide) rfl rfl (Or.inl rfl) rfl) (xo_0 dX1_fitsOn_8 rfl rfl (xo_0 dX1_fitsOn_11 rfl trivial (xo_0 dX1_fitsOn_12 rfl trivial (xo_n)))))))
theorem oX1_fitsOn_13 (d : Nat)  (ih_X1_fitsOn : xm_Ct cI yX1_fitsOn (ws_ yX1_fitsOn cX1_fitsOn 6 (some .boolean)) (d + 9) 0 0 (S_X1_fitsOn d)): xm_okb cI RX1 cX1_fitsOn false (d + 10) (lX1_fitsOn d) bX1_fitsOn_13 13 := xo_0 dX1_fitsOn_13 rfl trivial (xo_1 dX1_fitsOn_14 rfl (xm_fg_of (Or.inl q740) (by decide) rfl (by decide) rfl rfl (Or.inl rfl) rfl) (xo_0 dX1_fitsOn_17 rfl trivial (xo_0 dX1_fitsOn_18 rfl trivial (xo_0 dX1_fitsOn_19 rfl trivial (xo_0 dX1_fitsOn_20 rfl trivial (xo_1 dX1_fitsOn_21 rfl (xm_fg_of (Or.inl q724) (by decide) rfl (by decide) rfl rfl (Or.inl rfl) rfl) (xo_1 dX1_fitsOn_24 rfl (xm_fg_of (Or.inr ⟨_, q663⟩) (by decide) rfl (by decide) rfl rfl (Or.inl rfl) rfl) (xo_0 dX1_fitsOn_27 rfl trivial (xo_0 dX1_fitsOn_28 rfl trivial (xo_0 dX1_fitsOn_29 rfl trivial (xo_0 dX1_fitsOn_30 rfl rfl (xo_0 dX1_fitsOn_33 rfl trivial (xo_0 dX1_fitsOn_34 rfl trivial (xo_0 dX1_fitsOn_35 rfl trivial (xo_0 dX1_fitsOn_36 rfl trivial (xo_0 dX1_fitsOn_37 rfl trivial (xo_c rfl (xm_callV 0 cI_good ih_X1_fitsOn dX1_fitsOn_38 (Or.inl q983) q985 qs15 q116 q986 rfl rfl (by decide +kernel) (by omega) (by decide)) (xo_0 dX1_fitsOn_41 rfl trivial (xo_n)))))))))))))))))))
theorem oX1_fitsOn_42 (d : Nat)  (ih_X1_fitsOn : xm_Ct cI yX1_fitsOn (ws_ yX1_fitsOn cX1_fitsOn 6 (some .boolean)) (d + 9) 0 0 (S_X1_fitsOn d)): xm_okb cI RX1 cX1_fitsOn false (d + 10) (lX1_fitsOn d) bX1_fitsOn_42 42 := xo_0 dX1_fitsOn_42 rfl trivial (xo_0 dX1_fitsOn_43 rfl trivial (xo_n))
theorem oX1_fitsOn_44 (d : Nat)  (ih_X1_fitsOn : xm_Ct cI yX1_fitsOn (ws_ yX1_fitsOn cX1_fitsOn 6 (some .boolean)) (d + 9) 0 0 (S_X1_fitsOn d)): xm_okb cI RX1 cX1_fitsOn false (d + 10) (lX1_fitsOn d) bX1_fitsOn_44 44 := xo_0 dX1_fitsOn_44 rfl trivial (xo_0 dX1_fitsOn_45 rfl trivial (xo_0 dX1_fitsOn_46 rfl rfl (xo_0 dX1_fitsOn_49 rfl trivial (xo_0 dX1_fitsOn_50 rfl trivial (xo_0 dX1_fitsOn_52 rfl trivial (xo_0 dX1_fitsOn_53 rfl trivial (xo_n)))))))
theorem oX1_fitsOn_55 (d : Nat)  (ih_X1_fitsOn : xm_Ct cI yX1_fitsOn (ws_ yX1_fitsOn cX1_fitsOn 6 (some .boolean)) (d + 9) 0 0 (S_X1_fitsOn d)): xm_okb cI RX1 cX1_fitsOn false (d + 10) (lX1_fitsOn d) bX1_fitsOn_55 55 := xo_0 dX1_fitsOn_55 rfl trivial (xo_0 dX1_fitsOn_57 rfl trivial (xo_0 dX1_fitsOn_58 rfl rfl (xo_0 dX1_fitsOn_61 rfl trivial (xo_0 dX1_fitsOn_63 rfl rfl (xo_0 dX1_fitsOn_66 rfl trivial (xo_1 dX1_fitsOn_67 rfl (xm_fg_of (Or.inl q740) (by decide) rfl (by decide) rfl rfl (Or.inl rfl) rfl) (xo_0 dX1_fitsOn_70 rfl trivial (xo_0 dX1_fitsOn_72 rfl trivial (xo_0 dX1_fitsOn_73 rfl trivial (xo_0 dX1_fitsOn_74 rfl rfl (xo_0 dX1_fitsOn_77 rfl trivial (xo_1 dX1_fitsOn_78 rfl (xm_fg_of (Or.inl q716) (by decide) rfl (by decide) rfl rfl (Or.inl rfl) rfl) (xo_1 dX1_fitsOn_81 rfl (xm_fg_of (Or.inr ⟨_, q528⟩) (by decide) rfl (by decide) rfl rfl (Or.inl rfl) rfl) (xo_0 dX1_fitsOn_84 rfl trivial (xo_0 dX1_fitsOn_85 rfl trivial (xo_0 dX1_fitsOn_86 rfl trivial (xo_0 dX1_fitsOn_88 rfl trivial (xo_0 dX1_fitsOn_89 rfl trivial (xo_0 dX1_fitsOn_90 rfl trivial (xo_0 dX1_fitsOn_91 rfl rfl (xo_n)))))))))))))))))))))
theorem oX1_fitsOn_94 (d : Nat)  (ih_X1_fitsOn : xm_Ct cI yX1_fitsOn (ws_ yX1_fitsOn cX1_fitsOn 6 (some .boolean)) (d + 9) 0 0 (S_X1_fitsOn d)): xm_okb cI RX1 cX1_fitsOn false (d + 10) (lX1_fitsOn d) bX1_fitsOn_94 94 := xo_0 dX1_fitsOn_94 rfl trivial (xo_0 dX1_fitsOn_95 rfl rfl (xo_n))
theorem oX1_fitsOn_98 (d : Nat)  (ih_X1_fitsOn : xm_Ct cI yX1_fitsOn (ws_ yX1_fitsOn cX1_fitsOn 6 (some .boolean)) (d + 9) 0 0 (S_X1_fitsOn d)): xm_okb cI RX1 cX1_fitsOn false (d + 10) (lX1_fitsOn d) bX1_fitsOn_98 98 := xo_0 dX1_fitsOn_98 rfl trivial (xo_n)
theorem oX1_fitsOn_99 (d : Nat)  (ih_X1_fitsOn : xm_Ct cI yX1_fitsOn (ws_ yX1_fitsOn cX1_fitsOn 6 (some .boolean)) (d + 9) 0 0 (S_X1_fitsOn d)): xm_okb cI RX1 cX1_fitsOn false (d + 10) (lX1_fitsOn d) bX1_fitsOn_99 99 := xo_0 dX1_fitsOn_99 rfl trivial (xo_0 dX1_fitsOn_101 rfl trivial (xo_0 dX1_fitsOn_104 rfl rfl (xo_n)))
theorem oX1_fitsOn_107 (d : Nat)  (ih_X1_fitsOn : xm_Ct cI yX1_fitsOn (ws_ yX1_fitsOn cX1_fitsOn 6 (some .boolean)) (d + 9) 0 0 (S_X1_fitsOn d)): xm_okb cI RX1 cX1_fitsOn false (d + 10) (lX1_fitsOn d) bX1_fitsOn_107 107 := xo_0 dX1_fitsOn_107 rfl trivial (xo_0 dX1_fitsOn_109 rfl rfl (xo_0 dX1_fitsOn_112 rfl rfl (xo_n)))
theorem oX1_fitsOn_115 (d : Nat)  (ih_X1_fitsOn : xm_Ct cI yX1_fitsOn (ws_ yX1_fitsOn cX1_fitsOn 6 (some .boolean)) (d + 9) 0 0 (S_X1_fitsOn d)): xm_okb cI RX1 cX1_fitsOn false (d + 10) (lX1_fitsOn d) bX1_fitsOn_115 115 := xo_0 dX1_fitsOn_115 rfl trivial (xo_1 dX1_fitsOn_116 rfl (xm_fg_of (Or.inl q740) (by decide) rfl (by decide) rfl rfl (Or.inl rfl) rfl) (xo_0 dX1_fitsOn_119 rfl trivial (xo_0 dX1_fitsOn_120 rfl trivial (xo_0 dX1_fitsOn_121 rfl trivial (xo_0 dX1_fitsOn_122 rfl trivial (xo_0 dX1_fitsOn_123 rfl trivial (xo_0 dX1_fitsOn_124 rfl trivial (xo_0 dX1_fitsOn_125 rfl trivial (xo_0 dX1_fitsOn_126 rfl trivial (xo_c rfl (xm_callV 0 cI_good ih_X1_fitsOn dX1_fitsOn_127 (Or.inl q983) q985 qs15 q116 q986 rfl rfl (by decide +kernel) (by omega) (by decide)) (xo_0 dX1_fitsOn_130 rfl rfl (xo_0 dX1_fitsOn_133 rfl trivial (xo_0 dX1_fitsOn_134 rfl trivial (xo_n))))))))))))))
theorem oX1_fitsOn_135 (d : Nat)  (ih_X1_fitsOn : xm_Ct cI yX1_fitsOn (ws_ yX1_fitsOn cX1_fitsOn 6 (some .boolean)) (d + 9) 0 0 (S_X1_fitsOn d)): xm_okb cI RX1 cX1_fitsOn false (d + 10) (lX1_fitsOn d) bX1_fitsOn_135 135 := xo_0 dX1_fitsOn_135 rfl trivial (xo_1 dX1_fitsOn_136 rfl (xm_fg_of (Or.inl q740) (by decide) rfl (by decide) rfl rfl (Or.inl rfl) rfl) (xo_0 dX1_fitsOn_139 rfl trivial (xo_0 dX1_fitsOn_140 rfl trivial (xo_0 dX1_fitsOn_141 rfl trivial (xo_n)))))
theorem oX1_fitsOn_142 (d : Nat)  (ih_X1_fitsOn : xm_Ct cI yX1_fitsOn (ws_ yX1_fitsOn cX1_fitsOn 6 (some .boolean)) (d + 9) 0 0 (S_X1_fitsOn d)): xm_okb cI RX1 cX1_fitsOn false (d + 10) (lX1_fitsOn d) bX1_fitsOn_142 142 := xo_0 dX1_fitsOn_142 rfl trivial (xo_0 dX1_fitsOn_145 rfl rfl (xo_n))
theorem oX1_fitsOn_148 (d : Nat)  (ih_X1_fitsOn : xm_Ct cI yX1_fitsOn (ws_ yX1_fitsOn cX1_fitsOn 6 (some .boolean)) (d + 9) 0 0 (S_X1_fitsOn d)): xm_okb cI RX1 cX1_fitsOn false (d + 10) (lX1_fitsOn d) bX1_fitsOn_148 148 := xo_0 dX1_fitsOn_148 rfl trivial (xo_0 dX1_fitsOn_149 rfl trivial (xo_n))
theorem oX1_fitsOn (d : Nat)  (ih_X1_fitsOn : xm_Ct cI yX1_fitsOn (ws_ yX1_fitsOn cX1_fitsOn 6 (some .boolean)) (d + 9) 0 0 (S_X1_fitsOn d)): ∀ q ∈ kX1_fitsOn, xm_okb cI RX1 cX1_fitsOn false (d + 10) (lX1_fitsOn d) q.2 q.1 := by
  intro q hq
  simp only [List.mem_cons, List.not_mem_nil, or_false] at hq
  rcases hq with rfl | rfl | rfl | rfl | rfl | rfl | rfl | rfl | rfl | rfl | rfl | rfl | rfl
  · exact oX1_fitsOn_0 d  ih_X1_fitsOn
  · exact oX1_fitsOn_13 d  ih_X1_fitsOn
  · exact oX1_fitsOn_42 d  ih_X1_fitsOn
  · exact oX1_fitsOn_44 d  ih_X1_fitsOn
  · exact oX1_fitsOn_55 d  ih_X1_fitsOn
  · exact oX1_fitsOn_94 d  ih_X1_fitsOn
  · exact oX1_fitsOn_98 d  ih_X1_fitsOn
  · exact oX1_fitsOn_99 d  ih_X1_fitsOn
  · exact oX1_fitsOn_107 d  ih_X1_fitsOn
  · exact oX1_fitsOn_115 d  ih_X1_fitsOn
  · exact oX1_fitsOn_135 d  ih_X1_fitsOn
  · exact oX1_fitsOn_142 d  ih_X1_fitsOn
  · exact oX1_fitsOn_148 d  ih_X1_fitsOn
theorem body_X1_fitsOn (d : Nat) : xm_Body 6 1 0 0 [] (lX1_fitsOn d) kX1_fitsOn (S_X1_fitsOn (d + 1)) := by
  intro X avs w Q QX hX0 hS
  have hG := xm_go [] hX0
  have hX := xm_go [44,55,99,142] hX0
  clear hX0
  obtain ⟨P, Z, I, rfl, many, L, pre, rfl, hg, hk0, hmany, hpl, hd, hpre, hno, hyes⟩ := hS
  have hok := hg.ok
  obtain ⟨hn, h9, hm, h8⟩ := id hok
  have h5 := c_5 (P := P)
  have hi := hg.now.2.2.1
  refine ⟨rfl, ?_⟩
  by_cases hend : pre.length = c_h I
  · have d1 : nI pre.length = I 1 11 := by rw [hn, hend]
    have fin := hyes pre (by rw [hend, Nat.sub_self]; rfl) I c_ng.rf hpre
    clear hno hyes
    repeat' (first
      | ((with_reducible refine @And.intro (vp_in _ _) _ ?_ ?_); (· (first | with_reducible assumption | ((with_reducible refine t_vin ?_); decide) | ((with_reducible refine vp_in_nI ?_ ?_) <;> first | omega | decide) | (simp (disch := omega) only [xl_n, xl_m, nI_dec, nI_sb, nI_add, pk_mul]; (with_reducible refine vp_in_nI ?_ ?_) <;> first | omega | decide))); (conv => whnf))
      | (refine And.intro (by first | with_reducible assumption | exact (show cL _ _ = _ from rfl) | decide) ?_; (conv => whnf))
      | ((with_reducible refine @And.intro (_ = _) _ ?_ ?_); (· rfl); (conv => whnf))
      | ((with_reducible refine @And.intro (@LE.le Nat _ _ _) _ ?_ ?_); (· (first | exact Nat.zero_le _ | exact Nat.le_of_ble_eq_true rfl | omega)); (conv => whnf))
      | ((with_reducible refine @And.intro (@LT.lt Nat _ _ _) _ ?_ ?_); (· omega); (conv => whnf))
      | ((with_reducible refine @And.intro (∃ _, _ = _) _ ?_ ?_); (· exact ⟨_, rfl⟩); (conv => whnf))
      | ((with_reducible refine @And.intro (_ ∨ _) _ ?_ ?_); (· (first | exact Or.inl rfl | exact Or.inr rfl | exact t_b01 _ | assumption)); (conv => whnf))
      | ((with_reducible refine @And.intro (¬ (_ = _)) _ ?_ ?_); (· first | assumption | (with_reducible assumption)); (conv => whnf))
      | (refine hX _ _ _ _ _ _ ?_; (conv => whnf); fail_if_success show False)
      | (rw [c_si]; (conv => whnf))
      | (refine ⟨_, rfl, ?_⟩; (conv => whnf))
      | (refine ⟨_, _, rfl, ?_⟩; (conv => whnf))
      | (refine ⟨_, _, _, rfl, ?_⟩; (conv => whnf))
      | (refine ⟨_, _, _, _, rfl, ?_⟩; (conv => whnf))
      | (refine And.intro (fun c => ?_) (fun c => ?_) <;> (first | (exact absurd c (by decide +kernel)) | (exact absurd c (by assumption)) | (exact False.elim (c (by assumption))) | (conv => whnf)))
      | fail)
    exact fin
  · obtain ⟨d', rfl⟩ : ∃ d', d = d' + 1 := ⟨d - 1, by omega⟩
    have d1 : ¬ nI pre.length = I 1 11 := by
      rw [hn, nI_eq (by omega) (by omega)]
      exact hend
    obtain ⟨e, he⟩ : ∃ e, c_h I - pre.length = e + 1 := ⟨c_h I - pre.length - 1, by omega⟩
    rw [he, g_seat_s, show g_al (gGK (cG P I L)) (gnow (cG P I L)) pre.length = _ from c_is_ald (L := L) hi (show pre.length < c_h I by omega)] at hno hyes
    have ecl : (nI pre.length).toNatClampNeg = pre.length := nI_clamp (by omega)
    have enx : nI pre.length + Int32.ofInt 1 = nI (pre.length + 1) := by rw [xl_n.2.1, nI_add]
    have hr' : ∀ v : Int32, (pre ++ [v]).length = pre.length + 1 := fun v => by rw [List.length_append]; rfl
    have es : gsil (cG P I L) pre.length = I 33 pre.length := if_pos (by omega)
    -- nothing said yet of this hand
    have f50 : ∀ M, c_ng I M → M (10 * 5) pre.length = I (10 * 5) pre.length := fun M hM => by rw [hM (10 * 5) (by omega)]
    by_cases al : I (10 * 5) pre.length = nI 1
    · rw [decide_eq_true al, if_pos rfl] at hno hyes
      have l44 : ∀ n, n ≤ many → ∀ M, c_ng I M → (∀ j, j < pre.length → M 21 j = I 21 j) → M 21 pre.length = nM → g_1st (fun n => if g_seatok (cG P I L) pre (nI n) pre.length pre.length = true then g_seat (cG P I L) many e (pre ++ [nI n]) else none) n = none → ∀ o o', (o = none ∨ ∃ z, o = some (.int z)) → (o' = none ∨ ∃ z, o' = some (.int z)) → X 44 [some (.ref 0), some (.int (nI pre.length)), some (.int (nI many)), some (.int (nI n)), o, o'] [] (cW P Z M) 0 0 := by
        refine t_for fun n h1 ih M hM h21 hlast h1st o o' ho ho' => ?_
        have hspM := hM.sp
        have hgM := hspM.good hg
        have eG := hspM.G hg
        have hkM : g_ok (cG P M L) := by rw [eG]; exact hk0
        have ehM : c_h M = c_h I := hspM.kp.hp.1
        by_cases hend2 : n = many
        · subst hend2
          have d2 : nI n ≤ nI n := Int32.le_refl _
          have fin := hno h1st M hM h21
          clear hno hyes ih
          rcases ho with rfl | ⟨z, rfl⟩
          all_goals rcases ho' with rfl | ⟨z', rfl⟩
          all_goals
            refine hG _ _ _ _ _ _ ?_
            (conv => whnf)
            repeat' (first
              | ((with_reducible refine @And.intro (vp_in _ _) _ ?_ ?_); (· (first | with_reducible assumption | ((with_reducible refine t_vin ?_); decide) | ((with_reducible refine vp_in_nI ?_ ?_) <;> first | omega | decide) | (simp (disch := omega) only [xl_n, xl_m, nI_dec, nI_sb, nI_add, pk_mul]; (with_reducible refine vp_in_nI ?_ ?_) <;> first | omega | decide))); (conv => whnf))
              | (refine And.intro (by first | with_reducible assumption | exact (show cL _ _ = _ from rfl) | decide) ?_; (conv => whnf))
              | ((with_reducible refine @And.intro (_ = _) _ ?_ ?_); (· rfl); (conv => whnf))
              | ((with_reducible refine @And.intro (@LE.le Nat _ _ _) _ ?_ ?_); (· (first | exact Nat.zero_le _ | exact Nat.le_of_ble_eq_true rfl | omega)); (conv => whnf))
              | ((with_reducible refine @And.intro (@LT.lt Nat _ _ _) _ ?_ ?_); (· omega); (conv => whnf))
              | ((with_reducible refine @And.intro (∃ _, _ = _) _ ?_ ?_); (· exact ⟨_, rfl⟩); (conv => whnf))
              | ((with_reducible refine @And.intro (_ ∨ _) _ ?_ ?_); (· (first | exact Or.inl rfl | exact Or.inr rfl | exact t_b01 _ | assumption)); (conv => whnf))
              | ((with_reducible refine @And.intro (¬ (_ = _)) _ ?_ ?_); (· first | assumption | (with_reducible assumption)); (conv => whnf))
              | (refine hX _ _ _ _ _ _ ?_; (conv => whnf); fail_if_success show False)
              | (rw [c_si]; (conv => whnf))
              | (refine ⟨_, rfl, ?_⟩; (conv => whnf))
              | (refine ⟨_, _, rfl, ?_⟩; (conv => whnf))
              | (refine ⟨_, _, _, rfl, ?_⟩; (conv => whnf))
              | (refine ⟨_, _, _, _, rfl, ?_⟩; (conv => whnf))
              | (refine And.intro (fun c => ?_) (fun c => ?_) <;> (first | (exact absurd c (by decide +kernel)) | (exact absurd c (by assumption)) | (exact False.elim (c (by assumption))) | (conv => whnf)))
              | fail)
            exact fin
        · have d2 : ¬ nI many ≤ nI n := by
            rw [nI_leI (by omega) (by omega)]
            omega
          have x142 : ∀ N w w', c_ng I N → (∀ j, j < pre.length → N 21 j = I 21 j) → N 21 pre.length = nM → (if g_seatok (cG P I L) pre (nI n) pre.length pre.length = true then g_seat (cG P I L) many e (pre ++ [nI n]) else none) = none → X 142 [some (.ref 0), some (.int (nI pre.length)), some (.int (nI many)), some (.int (nI n)), some (.int w), some (.int w')] [] (cW P Z N) 0 0 := fun N w w' h1 h2 h3 h4 => by
            have := ih (n + 1) (by omega) (by omega) N h1 h2 h3 (by rw [g_1st_s, h1st]; exact h4) (some (.int w)) (some (.int w')) (Or.inr ⟨_, rfl⟩) (Or.inr ⟨_, rfl⟩)
            clear ih
            refine hG _ _ _ _ _ _ ?_
            (conv => whnf)
            repeat' (first
              | ((with_reducible refine @And.intro (vp_in _ _) _ ?_ ?_); (· (first | with_reducible assumption | ((with_reducible refine t_vin ?_); decide) | ((with_reducible refine vp_in_nI ?_ ?_) <;> first | omega | decide) | (simp (disch := omega) only [xl_n, xl_m, nI_dec, nI_sb, nI_add, pk_mul]; (with_reducible refine vp_in_nI ?_ ?_) <;> first | omega | decide))); (conv => whnf))
              | (refine And.intro (by first | with_reducible assumption | exact (show cL _ _ = _ from rfl) | decide) ?_; (conv => whnf))
              | ((with_reducible refine @And.intro (_ = _) _ ?_ ?_); (· rfl); (conv => whnf))
              | ((with_reducible refine @And.intro (@LE.le Nat _ _ _) _ ?_ ?_); (· (first | exact Nat.zero_le _ | exact Nat.le_of_ble_eq_true rfl | omega)); (conv => whnf))
              | ((with_reducible refine @And.intro (@LT.lt Nat _ _ _) _ ?_ ?_); (· omega); (conv => whnf))
              | ((with_reducible refine @And.intro (∃ _, _ = _) _ ?_ ?_); (· exact ⟨_, rfl⟩); (conv => whnf))
              | ((with_reducible refine @And.intro (_ ∨ _) _ ?_ ?_); (· (first | exact Or.inl rfl | exact Or.inr rfl | exact t_b01 _ | assumption)); (conv => whnf))
              | ((with_reducible refine @And.intro (¬ (_ = _)) _ ?_ ?_); (· first | assumption | (with_reducible assumption)); (conv => whnf))
              | (refine hX _ _ _ _ _ _ ?_; (conv => whnf); fail_if_success show False)
              | (rw [c_si]; (conv => whnf))
              | (refine ⟨_, rfl, ?_⟩; (conv => whnf))
              | (refine ⟨_, _, rfl, ?_⟩; (conv => whnf))
              | (refine ⟨_, _, _, rfl, ?_⟩; (conv => whnf))
              | (refine ⟨_, _, _, _, rfl, ?_⟩; (conv => whnf))
              | (refine And.intro (fun c => ?_) (fun c => ?_) <;> (first | (exact absurd c (by decide +kernel)) | (conv => whnf)))
              | fail)
            clear hX hG hno hyes
            simp (disch := omega) only [xl_n, xl_m, nI_dec, nI_sb, xl_0, xl_1, cW_i, Nat.add_zero, Nat.reduceAdd, Nat.reduceMul, t_bn0, t_bn1, Classical.not_not, t_lt, nI_add, nI_1, pk_mul, nI_clamp, c_si, nI_eq, nI_leI, nM_ne, nM_ne, xm_set] at *
            exact this
          clear ih
          have l55 : ∀ k, k ≤ pre.length → X 55 [some (.ref 0), some (.int (nI pre.length)), some (.int (nI many)), some (.int (nI n)), some (.int (t_b (g_seatok (cG P I L) pre (nI n) pre.length k))), some (.int (nI k))] [] (cW P Z M) 0 0 := by
            refine t_for fun k k1 jh => ?_
            by_cases hk : k = pre.length
            · subst hk
              have d3 : nI pre.length ≤ nI pre.length := Int32.le_refl _
              clear jh
              cases so : g_seatok (cG P I L) pre (nI n) pre.length pre.length with
              | false =>
                have d4 : t_b false = 0 := rfl
                have fin := x142 M (t_b false) (nI pre.length) hM h21 hlast (by rw [so]; rfl)
                clear x142 hno hyes
                refine hG _ _ _ _ _ _ ?_
                (conv => whnf)
                repeat' (first
                  | ((with_reducible refine @And.intro (vp_in _ _) _ ?_ ?_); (· (first | with_reducible assumption | ((with_reducible refine t_vin ?_); decide) | ((with_reducible refine vp_in_nI ?_ ?_) <;> first | omega | decide) | (simp (disch := omega) only [xl_n, xl_m, nI_dec, nI_sb, nI_add, pk_mul]; (with_reducible refine vp_in_nI ?_ ?_) <;> first | omega | decide))); (conv => whnf))
                  | (refine And.intro (by first | with_reducible assumption | exact (show cL _ _ = _ from rfl) | decide) ?_; (conv => whnf))
                  | ((with_reducible refine @And.intro (_ = _) _ ?_ ?_); (· rfl); (conv => whnf))
                  | ((with_reducible refine @And.intro (@LE.le Nat _ _ _) _ ?_ ?_); (· (first | exact Nat.zero_le _ | exact Nat.le_of_ble_eq_true rfl | omega)); (conv => whnf))
                  | ((with_reducible refine @And.intro (@LT.lt Nat _ _ _) _ ?_ ?_); (· omega); (conv => whnf))
                  | ((with_reducible refine @And.intro (∃ _, _ = _) _ ?_ ?_); (· exact ⟨_, rfl⟩); (conv => whnf))
                  | ((with_reducible refine @And.intro (_ ∨ _) _ ?_ ?_); (· (first | exact Or.inl rfl | exact Or.inr rfl | exact t_b01 _ | assumption)); (conv => whnf))
                  | ((with_reducible refine @And.intro (¬ (_ = _)) _ ?_ ?_); (· first | assumption | (with_reducible assumption)); (conv => whnf))
                  | (refine hX _ _ _ _ _ _ ?_; (conv => whnf); fail_if_success show False)
                  | (rw [c_si]; (conv => whnf))
                  | (refine ⟨_, rfl, ?_⟩; (conv => whnf))
                  | (refine ⟨_, _, rfl, ?_⟩; (conv => whnf))
                  | (refine ⟨_, _, _, rfl, ?_⟩; (conv => whnf))
                  | (refine ⟨_, _, _, _, rfl, ?_⟩; (conv => whnf))
                  | (refine And.intro (fun c => ?_) (fun c => ?_) <;> (first | (exact absurd c (by decide +kernel)) | (exact absurd c (by assumption)) | (exact False.elim (c (by assumption))) | (conv => whnf)))
                  | fail)
                exact fin
              | true =>
                have d4 : ¬ t_b true = 0 := by decide +kernel
                rw [so, if_pos rfl] at x142
                have hF : c_ng M (xm_u2 M 21 pre.length (nI n)) := c_ng.u
                have hF2 := hM.tr hF
                have eG2 := hF2.sp.G hg
                have h21' : c_npre M pre := fun j hj => by rw [h21 j hj]; exact hpre j hj
                refine hG _ _ _ _ _ _ ?_
                (conv => whnf)
                repeat' (first
                  | ((with_reducible refine @And.intro (vp_in _ _) _ ?_ ?_); (· (first | with_reducible assumption | ((with_reducible refine t_vin ?_); decide) | ((with_reducible refine vp_in_nI ?_ ?_) <;> first | omega | decide) | (simp (disch := omega) only [xl_n, xl_m, nI_dec, nI_sb, nI_add, pk_mul]; (with_reducible refine vp_in_nI ?_ ?_) <;> first | omega | decide))); (conv => whnf))
                  | (refine And.intro (by first | with_reducible assumption | exact (show cL _ _ = _ from rfl) | decide) ?_; (conv => whnf))
                  | ((with_reducible refine @And.intro (_ = _) _ ?_ ?_); (· rfl); (conv => whnf))
                  | ((with_reducible refine @And.intro (@LE.le Nat _ _ _) _ ?_ ?_); (· (first | exact Nat.zero_le _ | exact Nat.le_of_ble_eq_true rfl | omega)); (conv => whnf))
                  | ((with_reducible refine @And.intro (@LT.lt Nat _ _ _) _ ?_ ?_); (· omega); (conv => whnf))
                  | ((with_reducible refine @And.intro (∃ _, _ = _) _ ?_ ?_); (· exact ⟨_, rfl⟩); (conv => whnf))
                  | ((with_reducible refine @And.intro (_ ∨ _) _ ?_ ?_); (· (first | exact Or.inl rfl | exact Or.inr rfl | exact t_b01 _ | assumption)); (conv => whnf))
                  | ((with_reducible refine @And.intro (¬ (_ = _)) _ ?_ ?_); (· first | assumption | (with_reducible assumption)); (conv => whnf))
                  | (refine hX _ _ _ _ _ _ ?_; (conv => whnf); fail_if_success show False)
                  | (rw [c_si]; (conv => whnf))
                  | (refine ⟨_, rfl, ?_⟩; (conv => whnf))
                  | (refine ⟨_, _, rfl, ?_⟩; (conv => whnf))
                  | (refine ⟨_, _, _, rfl, ?_⟩; (conv => whnf))
                  | (refine ⟨_, _, _, _, rfl, ?_⟩; (conv => whnf))
                  | (rw [ecl]; (conv => whnf))
                  | (rw [enx]; (conv => whnf))
                  | (refine And.intro (fun c => ?_) (fun c => ?_) <;> (first | (exact absurd c (by decide +kernel)) | (exact absurd c (by assumption)) | (exact False.elim (c (by assumption))) | (conv => whnf)))
                  | fail)
                refine ⟨many, L, pre ++ [nI n], by rw [hr', ← enx], hF2.sp.good hg, by rw [eG2]; exact hk0, hmany, ?_, ?_, h21'.put, ?_, ?_⟩
                · rw [hr', hF2.sp.kp.hp.1]
                  omega
                · rw [hr', hF2.sp.kp.hp.1]
                  omega
                · rw [hr', hF2.sp.kp.hp.1, eG2, show c_h I - (pre.length + 1) = e by omega]
                  intro q J hJ hJ21
                  have hJ2 := hF2.tr hJ
                  have fin := x142 (xm_u2 J 21 pre.length nM) (t_b true) (nI pre.length) (hJ2.tr c_ng.u) (fun j hj => by
                    rw [xm_u2_at, if_neg (by omega), hJ21 j (by omega), xm_u2_at, if_neg (by omega)]
                    exact h21 j hj) (by rw [xm_u2_at, if_pos rfl]) q
                  have d5 : t_b false = 0 := rfl
                  clear x142 hno hyes
                  (conv => whnf)
                  refine And.intro (fun c => ?_) (fun c => ?_) <;> first | exact absurd c d5 | exact absurd d5 c | (conv => whnf)
                  repeat' (first
                    | ((with_reducible refine @And.intro (vp_in _ _) _ ?_ ?_); (· (first | with_reducible assumption | ((with_reducible refine t_vin ?_); decide) | ((with_reducible refine vp_in_nI ?_ ?_) <;> first | omega | decide) | (simp (disch := omega) only [xl_n, xl_m, nI_dec, nI_sb, nI_add, pk_mul]; (with_reducible refine vp_in_nI ?_ ?_) <;> first | omega | decide))); (conv => whnf))
                    | (refine And.intro (by first | with_reducible assumption | exact (show cL _ _ = _ from rfl) | decide) ?_; (conv => whnf))
                    | ((with_reducible refine @And.intro (_ = _) _ ?_ ?_); (· rfl); (conv => whnf))
                    | ((with_reducible refine @And.intro (@LE.le Nat _ _ _) _ ?_ ?_); (· (first | exact Nat.zero_le _ | exact Nat.le_of_ble_eq_true rfl | omega)); (conv => whnf))
                    | ((with_reducible refine @And.intro (@LT.lt Nat _ _ _) _ ?_ ?_); (· omega); (conv => whnf))
                    | ((with_reducible refine @And.intro (∃ _, _ = _) _ ?_ ?_); (· exact ⟨_, rfl⟩); (conv => whnf))
                    | ((with_reducible refine @And.intro (_ ∨ _) _ ?_ ?_); (· (first | exact Or.inl rfl | exact Or.inr rfl | exact t_b01 _ | assumption)); (conv => whnf))
                    | ((with_reducible refine @And.intro (¬ (_ = _)) _ ?_ ?_); (· first | assumption | (with_reducible assumption)); (conv => whnf))
                    | (refine hX _ _ _ _ _ _ ?_; (conv => whnf); fail_if_success show False)
                    | (rw [c_si]; (conv => whnf))
                    | (refine ⟨_, rfl, ?_⟩; (conv => whnf))
                    | (refine ⟨_, _, rfl, ?_⟩; (conv => whnf))
                    | (refine ⟨_, _, _, rfl, ?_⟩; (conv => whnf))
                    | (refine ⟨_, _, _, _, rfl, ?_⟩; (conv => whnf))
                    | (rw [ecl]; (conv => whnf))
                    | (rw [xl_m]; (conv => whnf))
                    | (refine And.intro (fun c => ?_) (fun c => ?_) <;> (first | (exact absurd c (by decide +kernel)) | (conv => whnf)))
                    | fail)
                  exact fin
                · rw [hr', hF2.sp.kp.hp.1, eG2, show c_h I - (pre.length + 1) = e by omega]
                  intro r q J hJ hJr
                  have fin := hyes r (g_1st_mono (k := n + 1) (by rw [g_1st_s, h1st]; show (if _ then _ else _) = _; rw [if_pos so]; exact q) (by omega)) J (hF2.tr hJ) hJr
                  have d5 : ¬ t_b true = 0 := by decide +kernel
                  clear x142 hno hyes
                  (conv => whnf)
                  refine And.intro (fun c => ?_) (fun c => ?_) <;> first | exact absurd c d5 | exact absurd d5 c | (conv => whnf)
                  repeat' (first
                    | ((with_reducible refine @And.intro (vp_in _ _) _ ?_ ?_); (· (first | with_reducible assumption | ((with_reducible refine t_vin ?_); decide) | ((with_reducible refine vp_in_nI ?_ ?_) <;> first | omega | decide) | (simp (disch := omega) only [xl_n, xl_m, nI_dec, nI_sb, nI_add, pk_mul]; (with_reducible refine vp_in_nI ?_ ?_) <;> first | omega | decide))); (conv => whnf))
                    | (refine And.intro (by first | with_reducible assumption | exact (show cL _ _ = _ from rfl) | decide) ?_; (conv => whnf))
                    | ((with_reducible refine @And.intro (_ = _) _ ?_ ?_); (· rfl); (conv => whnf))
                    | ((with_reducible refine @And.intro (@LE.le Nat _ _ _) _ ?_ ?_); (· (first | exact Nat.zero_le _ | exact Nat.le_of_ble_eq_true rfl | omega)); (conv => whnf))
                    | ((with_reducible refine @And.intro (@LT.lt Nat _ _ _) _ ?_ ?_); (· omega); (conv => whnf))
                    | ((with_reducible refine @And.intro (∃ _, _ = _) _ ?_ ?_); (· exact ⟨_, rfl⟩); (conv => whnf))
                    | ((with_reducible refine @And.intro (_ ∨ _) _ ?_ ?_); (· (first | exact Or.inl rfl | exact Or.inr rfl | exact t_b01 _ | assumption)); (conv => whnf))
                    | ((with_reducible refine @And.intro (¬ (_ = _)) _ ?_ ?_); (· first | assumption | (with_reducible assumption)); (conv => whnf))
                    | (refine hX _ _ _ _ _ _ ?_; (conv => whnf); fail_if_success show False)
                    | (rw [c_si]; (conv => whnf))
                    | (refine ⟨_, rfl, ?_⟩; (conv => whnf))
                    | (refine ⟨_, _, rfl, ?_⟩; (conv => whnf))
                    | (refine ⟨_, _, _, rfl, ?_⟩; (conv => whnf))
                    | (refine ⟨_, _, _, _, rfl, ?_⟩; (conv => whnf))
                    | (refine And.intro (fun c => ?_) (fun c => ?_) <;> (first | (exact absurd c (by decide +kernel)) | (conv => whnf)))
                    | fail)
                  exact fin
            · have d3 : ¬ nI pre.length ≤ nI k := by
                rw [nI_leI (by omega) (by omega)]
                omega
              have x99 : ∀ b, b = g_seatok (cG P I L) pre (nI n) pre.length (k + 1) → X 99 [some (.ref 0), some (.int (nI pre.length)), some (.int (nI many)), some (.int (nI n)), some (.int (t_b (g_seatok (cG P I L) pre (nI n) pre.length k))), some (.int (nI k))] [.int (t_b b)] (cW P Z M) 0 0 := fun b hb => by
                have := jh (k + 1) (by omega) (by omega)
                rw [← hb] at this
                clear jh hno hyes x142
                refine hG _ _ _ _ _ _ ?_
                (conv => whnf)
                repeat' (first
                  | ((with_reducible refine @And.intro (vp_in _ _) _ ?_ ?_); (· (first | with_reducible assumption | ((with_reducible refine t_vin ?_); decide) | ((with_reducible refine vp_in_nI ?_ ?_) <;> first | omega | decide) | (simp (disch := omega) only [xl_n, xl_m, nI_dec, nI_sb, nI_add, pk_mul]; (with_reducible refine vp_in_nI ?_ ?_) <;> first | omega | decide))); (conv => whnf))
                  | (refine And.intro (by first | with_reducible assumption | exact (show cL _ _ = _ from rfl) | decide) ?_; (conv => whnf))
                  | ((with_reducible refine @And.intro (_ = _) _ ?_ ?_); (· rfl); (conv => whnf))
                  | ((with_reducible refine @And.intro (@LE.le Nat _ _ _) _ ?_ ?_); (· (first | exact Nat.zero_le _ | exact Nat.le_of_ble_eq_true rfl | omega)); (conv => whnf))
                  | ((with_reducible refine @And.intro (@LT.lt Nat _ _ _) _ ?_ ?_); (· omega); (conv => whnf))
                  | ((with_reducible refine @And.intro (∃ _, _ = _) _ ?_ ?_); (· exact ⟨_, rfl⟩); (conv => whnf))
                  | ((with_reducible refine @And.intro (_ ∨ _) _ ?_ ?_); (· (first | exact Or.inl rfl | exact Or.inr rfl | exact t_b01 _ | assumption)); (conv => whnf))
                  | ((with_reducible refine @And.intro (¬ (_ = _)) _ ?_ ?_); (· first | assumption | (with_reducible assumption)); (conv => whnf))
                  | (refine hX _ _ _ _ _ _ ?_; (conv => whnf); fail_if_success show False)
                  | (rw [c_si]; (conv => whnf))
                  | (refine ⟨_, rfl, ?_⟩; (conv => whnf))
                  | (refine ⟨_, _, rfl, ?_⟩; (conv => whnf))
                  | (refine ⟨_, _, _, rfl, ?_⟩; (conv => whnf))
                  | (refine ⟨_, _, _, _, rfl, ?_⟩; (conv => whnf))
                  | (refine And.intro (fun c => ?_) (fun c => ?_) <;> (first | (exact absurd c (by decide +kernel)) | (conv => whnf)))
                  | fail)
                clear hX hG
                simp (disch := omega) only [xl_n, xl_m, nI_dec, nI_sb, xl_0, xl_1, cW_i, Nat.add_zero, Nat.reduceAdd, Nat.reduceMul, t_bn0, t_bn1, Classical.not_not, t_lt, nI_add, nI_1, pk_mul, nI_clamp, c_si, nI_eq, nI_leI, nM_ne, nM_ne, xm_set] at *
                exact this
              clear jh
              have es2 : g_seatok (cG P I L) pre (nI n) pre.length (k + 1) = (g_seatok (cG P I L) pre (nI n) pre.length k && !(t_has (gsil (cG P I L) pre.length) k && decide (pre.getD k (nI 0) = nI n))) := rfl
              have e21 : M 21 (nI k).toNatClampNeg = pre.getD k (nI 0) := by rw [nI_clamp (by omega), h21 k (by omega), hpre k (by omega)]
              have e33 : M 33 (nI pre.length).toNatClampNeg = I 33 pre.length := by rw [ecl, hM 33 (by omega)]
              rw [es2, es] at x99
              clear hno hyes x142
              cases so : g_seatok (cG P I L) pre (nI n) pre.length k with
              | false =>
                rw [so] at x99
                have x99 := x99 false rfl
                have d4 : t_b false = 0 := rfl
                refine hG _ _ _ _ _ _ ?_
                (conv => whnf)
                repeat' (first
                  | ((with_reducible refine @And.intro (vp_in _ _) _ ?_ ?_); (· (first | with_reducible assumption | ((with_reducible refine t_vin ?_); decide) | ((with_reducible refine vp_in_nI ?_ ?_) <;> first | omega | decide) | (simp (disch := omega) only [xl_n, xl_m, nI_dec, nI_sb, nI_add, pk_mul]; (with_reducible refine vp_in_nI ?_ ?_) <;> first | omega | decide))); (conv => whnf))
                  | (refine And.intro (by first | with_reducible assumption | exact (show cL _ _ = _ from rfl) | decide) ?_; (conv => whnf))
                  | ((with_reducible refine @And.intro (_ = _) _ ?_ ?_); (· rfl); (conv => whnf))
                  | ((with_reducible refine @And.intro (@LE.le Nat _ _ _) _ ?_ ?_); (· (first | exact Nat.zero_le _ | exact Nat.le_of_ble_eq_true rfl | omega)); (conv => whnf))
                  | ((with_reducible refine @And.intro (@LT.lt Nat _ _ _) _ ?_ ?_); (· omega); (conv => whnf))
                  | ((with_reducible refine @And.intro (∃ _, _ = _) _ ?_ ?_); (· exact ⟨_, rfl⟩); (conv => whnf))
                  | ((with_reducible refine @And.intro (_ ∨ _) _ ?_ ?_); (· (first | exact Or.inl rfl | exact Or.inr rfl | exact t_b01 _ | assumption)); (conv => whnf))
                  | ((with_reducible refine @And.intro (¬ (_ = _)) _ ?_ ?_); (· first | assumption | (with_reducible assumption)); (conv => whnf))
                  | (refine hX _ _ _ _ _ _ ?_; (conv => whnf); fail_if_success show False)
                  | (rw [c_si]; (conv => whnf))
                  | (refine ⟨_, rfl, ?_⟩; (conv => whnf))
                  | (refine ⟨_, _, rfl, ?_⟩; (conv => whnf))
                  | (refine ⟨_, _, _, rfl, ?_⟩; (conv => whnf))
                  | (refine ⟨_, _, _, _, rfl, ?_⟩; (conv => whnf))
                  | (refine And.intro (fun c => ?_) (fun c => ?_) <;> (first | (exact absurd c (by decide +kernel)) | (exact absurd c (by assumption)) | (exact False.elim (c (by assumption))) | (conv => whnf)))
                  | fail)
                exact x99
              | true =>
                rw [so] at x99
                have d4 : ¬ t_b true = 0 := by decide +kernel
                by_cases f1 : pre.getD k (nI 0) = nI n
                · have d5 : M 21 (nI k).toNatClampNeg = nI n := by rw [e21]; exact f1
                  by_cases f2 : (I 33 pre.length >>> (nI k &&& 31)) &&& nI 1 = nI 0
                  · have d6 : (M 33 (nI pre.length).toNatClampNeg >>> (nI k &&& 31)) &&& Int32.ofInt 1 = 0 := by rw [e33]; exact f2
                    have x99 := x99 true (by rw [t_has_f f2]; rfl)
                    refine hG _ _ _ _ _ _ ?_
                    (conv => whnf)
                    repeat' (first
                      | ((with_reducible refine @And.intro (vp_in _ _) _ ?_ ?_); (· (first | with_reducible assumption | ((with_reducible refine t_vin ?_); decide) | ((with_reducible refine vp_in_nI ?_ ?_) <;> first | omega | decide) | (simp (disch := omega) only [xl_n, xl_m, nI_dec, nI_sb, nI_add, pk_mul]; (with_reducible refine vp_in_nI ?_ ?_) <;> first | omega | decide))); (conv => whnf))
                      | (refine And.intro (by first | with_reducible assumption | exact (show cL _ _ = _ from rfl) | decide) ?_; (conv => whnf))
                      | ((with_reducible refine @And.intro (_ = _) _ ?_ ?_); (· rfl); (conv => whnf))
                      | ((with_reducible refine @And.intro (@LE.le Nat _ _ _) _ ?_ ?_); (· (first | exact Nat.zero_le _ | exact Nat.le_of_ble_eq_true rfl | omega)); (conv => whnf))
                      | ((with_reducible refine @And.intro (@LT.lt Nat _ _ _) _ ?_ ?_); (· omega); (conv => whnf))
                      | ((with_reducible refine @And.intro (∃ _, _ = _) _ ?_ ?_); (· exact ⟨_, rfl⟩); (conv => whnf))
                      | ((with_reducible refine @And.intro (_ ∨ _) _ ?_ ?_); (· (first | exact Or.inl rfl | exact Or.inr rfl | exact t_b01 _ | assumption)); (conv => whnf))
                      | ((with_reducible refine @And.intro (¬ (_ = _)) _ ?_ ?_); (· first | assumption | (with_reducible assumption)); (conv => whnf))
                      | (refine hX _ _ _ _ _ _ ?_; (conv => whnf); fail_if_success show False)
                      | (rw [c_si]; (conv => whnf))
                      | (refine ⟨_, rfl, ?_⟩; (conv => whnf))
                      | (refine ⟨_, _, rfl, ?_⟩; (conv => whnf))
                      | (refine ⟨_, _, _, rfl, ?_⟩; (conv => whnf))
                      | (refine ⟨_, _, _, _, rfl, ?_⟩; (conv => whnf))
                      | (refine And.intro (fun c => ?_) (fun c => ?_) <;> (first | (exact absurd c (by decide +kernel)) | (exact absurd c (by assumption)) | (exact False.elim (c (by assumption))) | (conv => whnf)))
                      | fail)
                    exact x99
                  · have d6 : ¬ (M 33 (nI pre.length).toNatClampNeg >>> (nI k &&& 31)) &&& Int32.ofInt 1 = 0 := by rw [e33]; exact f2
                    have x99 := x99 false (by rw [t_has_t f2, decide_eq_true f1]; rfl)
                    refine hG _ _ _ _ _ _ ?_
                    (conv => whnf)
                    repeat' (first
                      | ((with_reducible refine @And.intro (vp_in _ _) _ ?_ ?_); (· (first | with_reducible assumption | ((with_reducible refine t_vin ?_); decide) | ((with_reducible refine vp_in_nI ?_ ?_) <;> first | omega | decide) | (simp (disch := omega) only [xl_n, xl_m, nI_dec, nI_sb, nI_add, pk_mul]; (with_reducible refine vp_in_nI ?_ ?_) <;> first | omega | decide))); (conv => whnf))
                      | (refine And.intro (by first | with_reducible assumption | exact (show cL _ _ = _ from rfl) | decide) ?_; (conv => whnf))
                      | ((with_reducible refine @And.intro (_ = _) _ ?_ ?_); (· rfl); (conv => whnf))
                      | ((with_reducible refine @And.intro (@LE.le Nat _ _ _) _ ?_ ?_); (· (first | exact Nat.zero_le _ | exact Nat.le_of_ble_eq_true rfl | omega)); (conv => whnf))
                      | ((with_reducible refine @And.intro (@LT.lt Nat _ _ _) _ ?_ ?_); (· omega); (conv => whnf))
                      | ((with_reducible refine @And.intro (∃ _, _ = _) _ ?_ ?_); (· exact ⟨_, rfl⟩); (conv => whnf))
                      | ((with_reducible refine @And.intro (_ ∨ _) _ ?_ ?_); (· (first | exact Or.inl rfl | exact Or.inr rfl | exact t_b01 _ | assumption)); (conv => whnf))
                      | ((with_reducible refine @And.intro (¬ (_ = _)) _ ?_ ?_); (· first | assumption | (with_reducible assumption)); (conv => whnf))
                      | (refine hX _ _ _ _ _ _ ?_; (conv => whnf); fail_if_success show False)
                      | (rw [c_si]; (conv => whnf))
                      | (refine ⟨_, rfl, ?_⟩; (conv => whnf))
                      | (refine ⟨_, _, rfl, ?_⟩; (conv => whnf))
                      | (refine ⟨_, _, _, rfl, ?_⟩; (conv => whnf))
                      | (refine ⟨_, _, _, _, rfl, ?_⟩; (conv => whnf))
                      | (refine And.intro (fun c => ?_) (fun c => ?_) <;> (first | (exact absurd c (by decide +kernel)) | (exact absurd c (by assumption)) | (exact False.elim (c (by assumption))) | (conv => whnf)))
                      | fail)
                    exact x99
                · have d5 : ¬ M 21 (nI k).toNatClampNeg = nI n := by rw [e21]; exact f1
                  have x99 := x99 true (by rw [decide_eq_false f1, Bool.and_false]; rfl)
                  refine hG _ _ _ _ _ _ ?_
                  (conv => whnf)
                  repeat' (first
                    | ((with_reducible refine @And.intro (vp_in _ _) _ ?_ ?_); (· (first | with_reducible assumption | ((with_reducible refine t_vin ?_); decide) | ((with_reducible refine vp_in_nI ?_ ?_) <;> first | omega | decide) | (simp (disch := omega) only [xl_n, xl_m, nI_dec, nI_sb, nI_add, pk_mul]; (with_reducible refine vp_in_nI ?_ ?_) <;> first | omega | decide))); (conv => whnf))
                    | (refine And.intro (by first | with_reducible assumption | exact (show cL _ _ = _ from rfl) | decide) ?_; (conv => whnf))
                    | ((with_reducible refine @And.intro (_ = _) _ ?_ ?_); (· rfl); (conv => whnf))
                    | ((with_reducible refine @And.intro (@LE.le Nat _ _ _) _ ?_ ?_); (· (first | exact Nat.zero_le _ | exact Nat.le_of_ble_eq_true rfl | omega)); (conv => whnf))
                    | ((with_reducible refine @And.intro (@LT.lt Nat _ _ _) _ ?_ ?_); (· omega); (conv => whnf))
                    | ((with_reducible refine @And.intro (∃ _, _ = _) _ ?_ ?_); (· exact ⟨_, rfl⟩); (conv => whnf))
                    | ((with_reducible refine @And.intro (_ ∨ _) _ ?_ ?_); (· (first | exact Or.inl rfl | exact Or.inr rfl | exact t_b01 _ | assumption)); (conv => whnf))
                    | ((with_reducible refine @And.intro (¬ (_ = _)) _ ?_ ?_); (· first | assumption | (with_reducible assumption)); (conv => whnf))
                    | (refine hX _ _ _ _ _ _ ?_; (conv => whnf); fail_if_success show False)
                    | (rw [c_si]; (conv => whnf))
                    | (refine ⟨_, rfl, ?_⟩; (conv => whnf))
                    | (refine ⟨_, _, rfl, ?_⟩; (conv => whnf))
                    | (refine ⟨_, _, _, rfl, ?_⟩; (conv => whnf))
                    | (refine ⟨_, _, _, _, rfl, ?_⟩; (conv => whnf))
                    | (refine And.intro (fun c => ?_) (fun c => ?_) <;> (first | (exact absurd c (by decide +kernel)) | (exact absurd c (by assumption)) | (exact False.elim (c (by assumption))) | (conv => whnf)))
                    | fail)
                  exact x99
          have fin := l55 0 (Nat.zero_le _)
          clear l55 x142 hno hyes
          rcases ho with rfl | ⟨z, rfl⟩
          all_goals rcases ho' with rfl | ⟨z', rfl⟩
          all_goals
            refine hG _ _ _ _ _ _ ?_
            (conv => whnf)
            repeat' (first
              | ((with_reducible refine @And.intro (vp_in _ _) _ ?_ ?_); (· (first | with_reducible assumption | ((with_reducible refine t_vin ?_); decide) | ((with_reducible refine vp_in_nI ?_ ?_) <;> first | omega | decide) | (simp (disch := omega) only [xl_n, xl_m, nI_dec, nI_sb, nI_add, pk_mul]; (with_reducible refine vp_in_nI ?_ ?_) <;> first | omega | decide))); (conv => whnf))
              | (refine And.intro (by first | with_reducible assumption | exact (show cL _ _ = _ from rfl) | decide) ?_; (conv => whnf))
              | ((with_reducible refine @And.intro (_ = _) _ ?_ ?_); (· rfl); (conv => whnf))
              | ((with_reducible refine @And.intro (@LE.le Nat _ _ _) _ ?_ ?_); (· (first | exact Nat.zero_le _ | exact Nat.le_of_ble_eq_true rfl | omega)); (conv => whnf))
              | ((with_reducible refine @And.intro (@LT.lt Nat _ _ _) _ ?_ ?_); (· omega); (conv => whnf))
              | ((with_reducible refine @And.intro (∃ _, _ = _) _ ?_ ?_); (· exact ⟨_, rfl⟩); (conv => whnf))
              | ((with_reducible refine @And.intro (_ ∨ _) _ ?_ ?_); (· (first | exact Or.inl rfl | exact Or.inr rfl | exact t_b01 _ | assumption)); (conv => whnf))
              | ((with_reducible refine @And.intro (¬ (_ = _)) _ ?_ ?_); (· first | assumption | (with_reducible assumption)); (conv => whnf))
              | (refine hX _ _ _ _ _ _ ?_; (conv => whnf); fail_if_success show False)
              | (rw [c_si]; (conv => whnf))
              | (refine ⟨_, rfl, ?_⟩; (conv => whnf))
              | (refine ⟨_, _, rfl, ?_⟩; (conv => whnf))
              | (refine ⟨_, _, _, rfl, ?_⟩; (conv => whnf))
              | (refine ⟨_, _, _, _, rfl, ?_⟩; (conv => whnf))
              | (refine And.intro (fun c => ?_) (fun c => ?_) <;> (first | (exact absurd c (by decide +kernel)) | (exact absurd c (by assumption)) | (exact False.elim (c (by assumption))) | (conv => whnf)))
              | fail)
            exact fin
      have fin := l44 0 (Nat.zero_le _) (xm_u2 I 21 pre.length nM) c_ng.u (fun j hj => by rw [xm_u2_at, if_neg (by omega)]) (by rw [xm_u2_at, if_pos rfl]) rfl none none (Or.inl rfl) (Or.inl rfl)
      have d3 : xm_u2 I 21 pre.length nM (10 * 5) (nI pre.length).toNatClampNeg = Int32.ofInt 1 := by rw [ecl, xm_u2_ne (by decide), al, xl_n.2.1]
      clear l44 hno hyes
      repeat' (first
        | ((with_reducible refine @And.intro (vp_in _ _) _ ?_ ?_); (· (first | with_reducible assumption | ((with_reducible refine t_vin ?_); decide) | ((with_reducible refine vp_in_nI ?_ ?_) <;> first | omega | decide) | (simp (disch := omega) only [xl_n, xl_m, nI_dec, nI_sb, nI_add, pk_mul]; (with_reducible refine vp_in_nI ?_ ?_) <;> first | omega | decide))); (conv => whnf))
        | (refine And.intro (by first | with_reducible assumption | exact (show cL _ _ = _ from rfl) | decide) ?_; (conv => whnf))
        | ((with_reducible refine @And.intro (_ = _) _ ?_ ?_); (· rfl); (conv => whnf))
        | ((with_reducible refine @And.intro (@LE.le Nat _ _ _) _ ?_ ?_); (· (first | exact Nat.zero_le _ | exact Nat.le_of_ble_eq_true rfl | omega)); (conv => whnf))
        | ((with_reducible refine @And.intro (@LT.lt Nat _ _ _) _ ?_ ?_); (· omega); (conv => whnf))
        | ((with_reducible refine @And.intro (∃ _, _ = _) _ ?_ ?_); (· exact ⟨_, rfl⟩); (conv => whnf))
        | ((with_reducible refine @And.intro (_ ∨ _) _ ?_ ?_); (· (first | exact Or.inl rfl | exact Or.inr rfl | exact t_b01 _ | assumption)); (conv => whnf))
        | ((with_reducible refine @And.intro (¬ (_ = _)) _ ?_ ?_); (· first | assumption | (with_reducible assumption)); (conv => whnf))
        | (refine hX _ _ _ _ _ _ ?_; (conv => whnf); fail_if_success show False)
        | (rw [c_si]; (conv => whnf))
        | (refine ⟨_, rfl, ?_⟩; (conv => whnf))
        | (refine ⟨_, _, rfl, ?_⟩; (conv => whnf))
        | (refine ⟨_, _, _, rfl, ?_⟩; (conv => whnf))
        | (refine ⟨_, _, _, _, rfl, ?_⟩; (conv => whnf))
        | (rw [ecl]; (conv => whnf))
        | (rw [xl_m]; (conv => whnf))
        | (rw [c_tl h5]; (conv => whnf))
        | (rw [c_t7 h5]; (conv => whnf))
        | (rw [c_tf h5 (by decide)]; (conv => whnf))
        | (rw [c_t0 h5]; (conv => whnf))
        | (rw [c_t1 h5]; (conv => whnf))
        | (rw [c_t2 h5]; (conv => whnf))
        | (rw [c_t3 h5]; (conv => whnf))
        | (rw [c_t4 h5]; (conv => whnf))
        | (rw [c_t5 h5]; (conv => whnf))
        | (refine And.intro ⟨_, c_tl h5⟩ ?_; (conv => whnf))
        | (refine And.intro (fun c => ?_) (fun c => ?_) <;> (first | (exact absurd c (by decide +kernel)) | (exact absurd c (by assumption)) | (exact False.elim (c (by assumption))) | (conv => whnf)))
        | fail)
      exact fin
    · rw [decide_eq_false al, if_neg (by decide)] at hno hyes
      have hF : c_ng I (xm_u2 I 21 pre.length nM) := c_ng.u
      have eG2 := hF.sp.G hg
      have d3 : ¬ xm_u2 I 21 pre.length nM (10 * 5) pre.length = Int32.ofInt 1 := by rw [xm_u2_ne (by decide), xl_n.2.1]; exact al
      repeat' (first
        | ((with_reducible refine @And.intro (vp_in _ _) _ ?_ ?_); (· (first | with_reducible assumption | ((with_reducible refine t_vin ?_); decide) | ((with_reducible refine vp_in_nI ?_ ?_) <;> first | omega | decide) | (simp (disch := omega) only [xl_n, xl_m, nI_dec, nI_sb, nI_add, pk_mul]; (with_reducible refine vp_in_nI ?_ ?_) <;> first | omega | decide))); (conv => whnf))
        | (refine And.intro (by first | with_reducible assumption | exact (show cL _ _ = _ from rfl) | decide) ?_; (conv => whnf))
        | ((with_reducible refine @And.intro (_ = _) _ ?_ ?_); (· rfl); (conv => whnf))
        | ((with_reducible refine @And.intro (@LE.le Nat _ _ _) _ ?_ ?_); (· (first | exact Nat.zero_le _ | exact Nat.le_of_ble_eq_true rfl | omega)); (conv => whnf))
        | ((with_reducible refine @And.intro (@LT.lt Nat _ _ _) _ ?_ ?_); (· omega); (conv => whnf))
        | ((with_reducible refine @And.intro (∃ _, _ = _) _ ?_ ?_); (· exact ⟨_, rfl⟩); (conv => whnf))
        | ((with_reducible refine @And.intro (_ ∨ _) _ ?_ ?_); (· (first | exact Or.inl rfl | exact Or.inr rfl | exact t_b01 _ | assumption)); (conv => whnf))
        | ((with_reducible refine @And.intro (¬ (_ = _)) _ ?_ ?_); (· first | assumption | (with_reducible assumption)); (conv => whnf))
        | (refine hX _ _ _ _ _ _ ?_; (conv => whnf); fail_if_success show False)
        | (rw [c_si]; (conv => whnf))
        | (refine ⟨_, rfl, ?_⟩; (conv => whnf))
        | (refine ⟨_, _, rfl, ?_⟩; (conv => whnf))
        | (refine ⟨_, _, _, rfl, ?_⟩; (conv => whnf))
        | (refine ⟨_, _, _, _, rfl, ?_⟩; (conv => whnf))
        | (rw [ecl]; (conv => whnf))
        | (rw [xl_m]; (conv => whnf))
        | (rw [enx]; (conv => whnf))
        | (rw [c_tl h5]; (conv => whnf))
        | (rw [c_t7 h5]; (conv => whnf))
        | (rw [c_tf h5 (by decide)]; (conv => whnf))
        | (rw [c_t0 h5]; (conv => whnf))
        | (rw [c_t1 h5]; (conv => whnf))
        | (rw [c_t2 h5]; (conv => whnf))
        | (rw [c_t3 h5]; (conv => whnf))
        | (rw [c_t4 h5]; (conv => whnf))
        | (rw [c_t5 h5]; (conv => whnf))
        | (refine And.intro ⟨_, c_tl h5⟩ ?_; (conv => whnf))
        | (refine And.intro (fun c => ?_) (fun c => ?_) <;> (first | (exact absurd c (by decide +kernel)) | (exact absurd c (by assumption)) | (exact False.elim (c (by assumption))) | (conv => whnf)))
        | fail)
      refine ⟨many, L, pre ++ [nM], by rw [hr', ← enx], hF.sp.good hg, by rw [eG2]; exact hk0, hmany, ?_, ?_, hpre.put, ?_, ?_⟩
      · rw [hr', hF.sp.kp.hp.1]
        omega
      · rw [hr', hF.sp.kp.hp.1]
        omega
      · rw [hr', hF.sp.kp.hp.1, eG2, show c_h I - (pre.length + 1) = e by omega]
        intro q J hJ hJ21
        have fin := hno q J (hF.tr hJ) (fun j hj => by rw [hJ21 j (by omega), xm_u2_at, if_neg (by omega)])
        clear hno hyes
        (conv => whnf)
        repeat' (first
          | ((with_reducible refine @And.intro (vp_in _ _) _ ?_ ?_); (· (first | with_reducible assumption | ((with_reducible refine t_vin ?_); decide) | ((with_reducible refine vp_in_nI ?_ ?_) <;> first | omega | decide) | (simp (disch := omega) only [xl_n, xl_m, nI_dec, nI_sb, nI_add, pk_mul]; (with_reducible refine vp_in_nI ?_ ?_) <;> first | omega | decide))); (conv => whnf))
          | (refine And.intro (by first | with_reducible assumption | exact (show cL _ _ = _ from rfl) | decide) ?_; (conv => whnf))
          | ((with_reducible refine @And.intro (_ = _) _ ?_ ?_); (· rfl); (conv => whnf))
          | ((with_reducible refine @And.intro (@LE.le Nat _ _ _) _ ?_ ?_); (· (first | exact Nat.zero_le _ | exact Nat.le_of_ble_eq_true rfl | omega)); (conv => whnf))
          | ((with_reducible refine @And.intro (@LT.lt Nat _ _ _) _ ?_ ?_); (· omega); (conv => whnf))
          | ((with_reducible refine @And.intro (∃ _, _ = _) _ ?_ ?_); (· exact ⟨_, rfl⟩); (conv => whnf))
          | ((with_reducible refine @And.intro (_ ∨ _) _ ?_ ?_); (· (first | exact Or.inl rfl | exact Or.inr rfl | exact t_b01 _ | assumption)); (conv => whnf))
          | ((with_reducible refine @And.intro (¬ (_ = _)) _ ?_ ?_); (· first | assumption | (with_reducible assumption)); (conv => whnf))
          | (refine hX _ _ _ _ _ _ ?_; (conv => whnf); fail_if_success show False)
          | (rw [c_si]; (conv => whnf))
          | (refine ⟨_, rfl, ?_⟩; (conv => whnf))
          | (refine ⟨_, _, rfl, ?_⟩; (conv => whnf))
          | (refine ⟨_, _, _, rfl, ?_⟩; (conv => whnf))
          | (refine ⟨_, _, _, _, rfl, ?_⟩; (conv => whnf))
          | (refine And.intro (fun c => ?_) (fun c => ?_) <;> (first | (exact absurd c (by decide +kernel)) | (exact absurd c (by assumption)) | (exact False.elim (c (by assumption))) | (conv => whnf)))
          | fail)
        exact fin
      · rw [hr', hF.sp.kp.hp.1, eG2, show c_h I - (pre.length + 1) = e by omega]
        intro r q J hJ hJr
        have fin := hyes r q J (hF.tr hJ) hJr
        clear hno hyes
        (conv => whnf)
        repeat' (first
          | ((with_reducible refine @And.intro (vp_in _ _) _ ?_ ?_); (· (first | with_reducible assumption | ((with_reducible refine t_vin ?_); decide) | ((with_reducible refine vp_in_nI ?_ ?_) <;> first | omega | decide) | (simp (disch := omega) only [xl_n, xl_m, nI_dec, nI_sb, nI_add, pk_mul]; (with_reducible refine vp_in_nI ?_ ?_) <;> first | omega | decide))); (conv => whnf))
          | (refine And.intro (by first | with_reducible assumption | exact (show cL _ _ = _ from rfl) | decide) ?_; (conv => whnf))
          | ((with_reducible refine @And.intro (_ = _) _ ?_ ?_); (· rfl); (conv => whnf))
          | ((with_reducible refine @And.intro (@LE.le Nat _ _ _) _ ?_ ?_); (· (first | exact Nat.zero_le _ | exact Nat.le_of_ble_eq_true rfl | omega)); (conv => whnf))
          | ((with_reducible refine @And.intro (@LT.lt Nat _ _ _) _ ?_ ?_); (· omega); (conv => whnf))
          | ((with_reducible refine @And.intro (∃ _, _ = _) _ ?_ ?_); (· exact ⟨_, rfl⟩); (conv => whnf))
          | ((with_reducible refine @And.intro (_ ∨ _) _ ?_ ?_); (· (first | exact Or.inl rfl | exact Or.inr rfl | exact t_b01 _ | assumption)); (conv => whnf))
          | ((with_reducible refine @And.intro (¬ (_ = _)) _ ?_ ?_); (· first | assumption | (with_reducible assumption)); (conv => whnf))
          | (refine hX _ _ _ _ _ _ ?_; (conv => whnf); fail_if_success show False)
          | (rw [c_si]; (conv => whnf))
          | (refine ⟨_, rfl, ?_⟩; (conv => whnf))
          | (refine ⟨_, _, rfl, ?_⟩; (conv => whnf))
          | (refine ⟨_, _, _, rfl, ?_⟩; (conv => whnf))
          | (refine ⟨_, _, _, _, rfl, ?_⟩; (conv => whnf))
          | (refine And.intro (fun c => ?_) (fun c => ?_) <;> (first | (exact absurd c (by decide +kernel)) | (exact absurd c (by assumption)) | (exact False.elim (c (by assumption))) | (conv => whnf)))
          | fail)
        exact fin
theorem ct_X1_fitsOn : ∀ d, xm_Ct cI yX1_fitsOn (ws_ yX1_fitsOn cX1_fitsOn 6 (some .boolean)) (d + 9) 0 0 (S_X1_fitsOn d)
  | 0 => xm_ct0
  | d + 1 => xm_enter (rt := 1) (init := false) (by decide +kernel) rfl (fun h => by cases h) (Or.inr (Or.inl ⟨rfl, Or.inl rfl⟩)) (oX1_fitsOn d (ct_X1_fitsOn d)) (body_X1_fitsOn d)
theorem cv_X1_fitsOn {own : String} {cc : ByteArray} {fr pc idx : Nat} (hdg : decode cc pc = .ok (.invokevirtual idx, 3)) (hl : xm_ml own idx yX1_fitsOn) (hfr : 19 < fr) : xm_CallOK cI own cc fr pc (pc + 3) 3 0 0 (xm_this 0 (S_X1_fitsOn 10)) := xm_callV 0 cI_good (ct_X1_fitsOn 10) hdg hl q985 qs15 q116 q986 rfl rfl (by decide +kernel) hfr (by decide)
theorem g_1st_in {α : Type} {f : Nat → Option α} {r : α} : ∀ {n : Nat}, g_1st f n = some r → ∃ k, k < n ∧ f k = some r
  | 0, h => by cases h
  | n + 1, h => by
    rw [g_1st_s] at h
    cases e : g_1st f n with
    | some z =>
      rw [e] at h
      cases h
      obtain ⟨k, hk, q⟩ := g_1st_in e
      exact ⟨k, by omega, q⟩
    | none =>
      rw [e] at h
      exact ⟨n, by omega, h⟩
theorem g_seat_l {G : gG} {many : Nat} : ∀ {d : Nat} {pre r : List Int32}, g_seat G many d pre = some r → r.length = pre.length + d
  | 0, pre, r, h => by
    cases h
    rfl
  | d + 1, pre, r, h => by
    rw [g_seat_s] at h
    split at h
    · obtain ⟨k, -, q⟩ := g_1st_in h
      split at q
      · have := g_seat_l q
        rw [List.length_append] at this
        simp at this
        omega
      · cases q
    · have := g_seat_l h
      rw [List.length_append] at this
      simp at this
      omega
abbrev bX1_findNights_0 : List xE := [(.iconst 0, 1, 0, 0, 0), (.istore_n 1, 2, 0, 0, 0)]
abbrev bX1_findNights_2 : List xE := [(.aload_n 0, 3, 0, 0, 0), (.iconst 0, 4, 0, 0, 0), (.iload_n 1, 5, 0, 0, 0), (.invokevirtual 362, 8, 0, 0, 9), (.ifCond .ne 9, 11, 0, 17, 0), (.iinc 1 1, 14, 0, 0, 0), (.goto (-12), 17, 0, 2, 0)]
abbrev bX1_findNights_17 : List xE := [(.iload_n 1, 18, 0, 0, 0), (.ireturn, 19, 0, 0, 0)]
abbrev kX1_findNights : List (Nat × List xE) := [(0, bX1_findNights_0), (2, bX1_findNights_2), (17, bX1_findNights_17)]
abbrev lX1_findNights : List (Nat × Nat × Nat × xS) := [(3, 0, 0, xm_this 0 (S_X1_fitsOn 10))]
theorem oX1_findNights_0  : xm_okb cI RX1 cX1_findNights false 20 lX1_findNights bX1_findNights_0 0 := xo_0 dX1_findNights_0 rfl trivial (xo_0 dX1_findNights_1 rfl trivial (xo_n))
theorem oX1_findNights_2  : xm_okb cI RX1 cX1_findNights false 20 lX1_findNights bX1_findNights_2 2 := xo_0 dX1_findNights_2 rfl trivial (xo_0 dX1_findNights_3 rfl trivial (xo_0 dX1_findNights_4 rfl trivial (xo_c rfl (cv_X1_fitsOn dX1_findNights_5 (Or.inl q983) (by decide)) (xo_0 dX1_findNights_8 rfl rfl (xo_0 dX1_findNights_11 rfl trivial (xo_0 dX1_findNights_14 rfl rfl (xo_n)))))))
theorem oX1_findNights_17  : xm_okb cI RX1 cX1_findNights false 20 lX1_findNights bX1_findNights_17 17 := xo_0 dX1_findNights_17 rfl trivial (xo_0 dX1_findNights_18 rfl trivial (xo_n))
theorem oX1_findNights  : ∀ q ∈ kX1_findNights, xm_okb cI RX1 cX1_findNights false 20 lX1_findNights q.2 q.1 := by
  intro q hq
  simp only [List.mem_cons, List.not_mem_nil, or_false] at hq
  rcases hq with rfl | rfl | rfl
  · exact oX1_findNights_0  
  · exact oX1_findNights_2  
  · exact oX1_findNights_17  
def S_X1_findNights : xS := cU fun as P Z I Q QX => ∃ L, as = [.ref 0] ∧ c_good P Z I L ∧ g_ok (cG P I L) ∧ ∀ J, c_ng I J → ∀ r, g_seat (cG P I L) (g_nt (cG P I L)) (c_h I) [] = some r → c_npre J r → Q (some (.int (nI (g_nt (cG P I L))))) J
theorem body_X1_findNights : xm_Body 2 0 0 0 [] lX1_findNights kX1_findNights S_X1_findNights := by
  intro X avs w Q QX hX0 hS
  have hG := xm_go [] hX0
  have hX := xm_go [2] hX0
  clear hX0
  obtain ⟨P, Z, I, rfl, L, rfl, hg, hk0, hQ⟩ := hS
  have hok := hg.ok
  obtain ⟨hn, h9, hm, h8⟩ := id hok
  have loop : ∀ m, m ≤ c_h I → ∀ M, c_ng I M → g_ntF (cG P I L) (c_h I - m) m = g_nt (cG P I L) → X 2 [some (.ref 0), some (.int (nI m))] [] (cW P Z M) 0 0 := by
    refine t_for fun m h1 ih M hM hN => ?_
    have nx := ih (m + 1) (by omega)
    clear ih
    have hgM := hM.sp.good hg
    have eG := hM.sp.G hg
    have hkM : g_ok (cG P M L) := by rw [eG]; exact hk0
    have ehM : c_h M = c_h I := hM.sp.kp.hp.1
    refine hG _ _ _ _ _ _ ?_
    (conv => whnf)
    repeat' (first
      | ((with_reducible refine @And.intro (vp_in _ _) _ ?_ ?_); (· (first | with_reducible assumption | ((with_reducible refine t_vin ?_); decide) | ((with_reducible refine vp_in_nI ?_ ?_) <;> first | omega | decide) | (simp (disch := omega) only [xl_n, xl_m, nI_dec, nI_sb, nI_add, pk_mul]; (with_reducible refine vp_in_nI ?_ ?_) <;> first | omega | decide))); (conv => whnf))
      | (refine And.intro (by first | with_reducible assumption | exact (show cL _ _ = _ from rfl) | decide) ?_; (conv => whnf))
      | ((with_reducible refine @And.intro (_ = _) _ ?_ ?_); (· rfl); (conv => whnf))
      | ((with_reducible refine @And.intro (@LE.le Nat _ _ _) _ ?_ ?_); (· (first | exact Nat.zero_le _ | exact Nat.le_of_ble_eq_true rfl | omega)); (conv => whnf))
      | ((with_reducible refine @And.intro (@LT.lt Nat _ _ _) _ ?_ ?_); (· omega); (conv => whnf))
      | ((with_reducible refine @And.intro (∃ _, _ = _) _ ?_ ?_); (· exact ⟨_, rfl⟩); (conv => whnf))
      | ((with_reducible refine @And.intro (_ ∨ _) _ ?_ ?_); (· (first | exact Or.inl rfl | exact Or.inr rfl | exact t_b01 _ | assumption)); (conv => whnf))
      | ((with_reducible refine @And.intro (¬ (_ = _)) _ ?_ ?_); (· first | assumption | (with_reducible assumption)); (conv => whnf))
      | (refine hX _ _ _ _ _ _ ?_; (conv => whnf); fail_if_success show False)
      | (rw [c_si]; (conv => whnf))
      | (refine ⟨_, rfl, ?_⟩; (conv => whnf))
      | (refine ⟨_, _, rfl, ?_⟩; (conv => whnf))
      | (refine ⟨_, _, _, rfl, ?_⟩; (conv => whnf))
      | (refine ⟨_, _, _, _, rfl, ?_⟩; (conv => whnf))
      | (refine And.intro (fun c => ?_) (fun c => ?_) <;> (first | (exact absurd c (by decide +kernel)) | (conv => whnf)))
      | fail)
    refine ⟨m, L, [], rfl, hgM, hkM, by omega, Nat.zero_le _, ?_, fun j hj => (by cases hj), ?_, ?_⟩
    · rw [ehM]
      show c_h I - 0 ≤ 9
      omega
    · rw [ehM, eG]
      intro q J hJ _
      have er : g_seat (cG P I L) m (c_h I) [] = none := q
      have hlt : m < c_h I := by
        rcases Nat.lt_or_ge m (c_h I) with q | q
        · exact q
        · exact absurd er (g_seat_some (by omega) (c_h I) [] (by show 0 + c_h I ≤ m; omega))
      have ef : g_ntF (cG P I L) (c_h I - m) m = g_ntF (cG P I L) (c_h I - (m + 1)) (m + 1) := by
        rw [show c_h I - m = (c_h I - (m + 1)) + 1 by omega, g_ntF_s]
        show (if (g_seat (cG P I L) m (c_h I) []).isSome = true then _ else _) = _
        rw [er]
        rfl
      have fin := nx (by omega) J (hM.tr hJ) (ef.symm.trans hN)
      have d1 : t_b false = 0 := rfl
      clear nx hQ
      (conv => whnf)
      refine And.intro (fun c => ?_) (fun c => ?_) <;> first | exact absurd c d1 | exact absurd d1 c | (conv => whnf)
      repeat' (first
        | ((with_reducible refine @And.intro (vp_in _ _) _ ?_ ?_); (· (first | with_reducible assumption | ((with_reducible refine t_vin ?_); decide) | ((with_reducible refine vp_in_nI ?_ ?_) <;> first | omega | decide) | (simp (disch := omega) only [xl_n, xl_m, nI_dec, nI_sb, nI_add, pk_mul]; (with_reducible refine vp_in_nI ?_ ?_) <;> first | omega | decide))); (conv => whnf))
        | (refine And.intro (by first | with_reducible assumption | exact (show cL _ _ = _ from rfl) | decide) ?_; (conv => whnf))
        | ((with_reducible refine @And.intro (_ = _) _ ?_ ?_); (· rfl); (conv => whnf))
        | ((with_reducible refine @And.intro (@LE.le Nat _ _ _) _ ?_ ?_); (· (first | exact Nat.zero_le _ | exact Nat.le_of_ble_eq_true rfl | omega)); (conv => whnf))
        | ((with_reducible refine @And.intro (@LT.lt Nat _ _ _) _ ?_ ?_); (· omega); (conv => whnf))
        | ((with_reducible refine @And.intro (∃ _, _ = _) _ ?_ ?_); (· exact ⟨_, rfl⟩); (conv => whnf))
        | ((with_reducible refine @And.intro (_ ∨ _) _ ?_ ?_); (· (first | exact Or.inl rfl | exact Or.inr rfl | exact t_b01 _ | assumption)); (conv => whnf))
        | ((with_reducible refine @And.intro (¬ (_ = _)) _ ?_ ?_); (· first | assumption | (with_reducible assumption)); (conv => whnf))
        | (refine hX _ _ _ _ _ _ ?_; (conv => whnf); fail_if_success show False)
        | (rw [c_si]; (conv => whnf))
        | (refine ⟨_, rfl, ?_⟩; (conv => whnf))
        | (refine ⟨_, _, rfl, ?_⟩; (conv => whnf))
        | (refine ⟨_, _, _, rfl, ?_⟩; (conv => whnf))
        | (refine ⟨_, _, _, _, rfl, ?_⟩; (conv => whnf))
        | (refine And.intro (fun c => ?_) (fun c => ?_) <;> (first | (exact absurd c (by decide +kernel)) | (conv => whnf)))
        | fail)
      clear hX hG
      simp (disch := omega) only [xl_n, xl_m, nI_dec, nI_sb, xl_0, xl_1, cW_i, Nat.add_zero, Nat.reduceAdd, Nat.reduceMul, t_bn0, t_bn1, Classical.not_not, t_lt, nI_add, nI_1, pk_mul, nI_clamp, c_si, nI_eq, nI_leI, nM_ne, nM_ne, xm_set, xm_lv0, xm_psh] at *
      exact fin
    · rw [ehM, eG]
      intro r q J hJ hr
      have er : g_seat (cG P I L) m (c_h I) [] = some r := q
      have ef : g_nt (cG P I L) = m := by
        rw [← hN]
        cases e : c_h I - m with
        | zero => rfl
        | succ f =>
          rw [g_ntF_s]
          show (if (g_seat (cG P I L) m (c_h I) []).isSome = true then _ else _) = _
          rw [er]
          rfl
      rw [ef] at hQ
      have fin := hQ J (hM.tr hJ) r er hr
      have d1 : ¬ t_b true = 0 := by decide +kernel
      clear nx hQ
      (conv => whnf)
      refine And.intro (fun c => ?_) (fun c => ?_) <;> first | exact absurd c d1 | exact absurd d1 c | (conv => whnf)
      repeat' (first
        | ((with_reducible refine @And.intro (vp_in _ _) _ ?_ ?_); (· (first | with_reducible assumption | ((with_reducible refine t_vin ?_); decide) | ((with_reducible refine vp_in_nI ?_ ?_) <;> first | omega | decide) | (simp (disch := omega) only [xl_n, xl_m, nI_dec, nI_sb, nI_add, pk_mul]; (with_reducible refine vp_in_nI ?_ ?_) <;> first | omega | decide))); (conv => whnf))
        | (refine And.intro (by first | with_reducible assumption | exact (show cL _ _ = _ from rfl) | decide) ?_; (conv => whnf))
        | ((with_reducible refine @And.intro (_ = _) _ ?_ ?_); (· rfl); (conv => whnf))
        | ((with_reducible refine @And.intro (@LE.le Nat _ _ _) _ ?_ ?_); (· (first | exact Nat.zero_le _ | exact Nat.le_of_ble_eq_true rfl | omega)); (conv => whnf))
        | ((with_reducible refine @And.intro (@LT.lt Nat _ _ _) _ ?_ ?_); (· omega); (conv => whnf))
        | ((with_reducible refine @And.intro (∃ _, _ = _) _ ?_ ?_); (· exact ⟨_, rfl⟩); (conv => whnf))
        | ((with_reducible refine @And.intro (_ ∨ _) _ ?_ ?_); (· (first | exact Or.inl rfl | exact Or.inr rfl | exact t_b01 _ | assumption)); (conv => whnf))
        | ((with_reducible refine @And.intro (¬ (_ = _)) _ ?_ ?_); (· first | assumption | (with_reducible assumption)); (conv => whnf))
        | (refine hX _ _ _ _ _ _ ?_; (conv => whnf); fail_if_success show False)
        | (rw [c_si]; (conv => whnf))
        | (refine ⟨_, rfl, ?_⟩; (conv => whnf))
        | (refine ⟨_, _, rfl, ?_⟩; (conv => whnf))
        | (refine ⟨_, _, _, rfl, ?_⟩; (conv => whnf))
        | (refine ⟨_, _, _, _, rfl, ?_⟩; (conv => whnf))
        | (refine And.intro (fun c => ?_) (fun c => ?_) <;> (first | (exact absurd c (by decide +kernel)) | (conv => whnf)))
        | fail)
      exact fin
  refine ⟨rfl, ?_⟩
  repeat' (first
    | ((with_reducible refine @And.intro (vp_in _ _) _ ?_ ?_); (· (first | with_reducible assumption | ((with_reducible refine t_vin ?_); decide) | ((with_reducible refine vp_in_nI ?_ ?_) <;> first | omega | decide) | (simp (disch := omega) only [xl_n, xl_m, nI_dec, nI_sb, nI_add, pk_mul]; (with_reducible refine vp_in_nI ?_ ?_) <;> first | omega | decide))); (conv => whnf))
    | (refine And.intro (by first | with_reducible assumption | exact (show cL _ _ = _ from rfl) | decide) ?_; (conv => whnf))
    | ((with_reducible refine @And.intro (_ = _) _ ?_ ?_); (· rfl); (conv => whnf))
    | ((with_reducible refine @And.intro (@LE.le Nat _ _ _) _ ?_ ?_); (· (first | exact Nat.zero_le _ | exact Nat.le_of_ble_eq_true rfl | omega)); (conv => whnf))
    | ((with_reducible refine @And.intro (@LT.lt Nat _ _ _) _ ?_ ?_); (· omega); (conv => whnf))
    | ((with_reducible refine @And.intro (∃ _, _ = _) _ ?_ ?_); (· exact ⟨_, rfl⟩); (conv => whnf))
    | ((with_reducible refine @And.intro (_ ∨ _) _ ?_ ?_); (· (first | exact Or.inl rfl | exact Or.inr rfl | exact t_b01 _ | assumption)); (conv => whnf))
    | ((with_reducible refine @And.intro (¬ (_ = _)) _ ?_ ?_); (· first | assumption | (with_reducible assumption)); (conv => whnf))
    | (refine hX _ _ _ _ _ _ ?_; (conv => whnf); fail_if_success show False)
    | (rw [c_si]; (conv => whnf))
    | (refine ⟨_, rfl, ?_⟩; (conv => whnf))
    | (refine ⟨_, _, rfl, ?_⟩; (conv => whnf))
    | (refine ⟨_, _, _, rfl, ?_⟩; (conv => whnf))
    | (refine ⟨_, _, _, _, rfl, ?_⟩; (conv => whnf))
    | (refine And.intro (fun c => ?_) (fun c => ?_) <;> (first | (exact absurd c (by decide +kernel)) | (conv => whnf)))
    | fail)
  exact loop 0 (Nat.zero_le _) I c_ng.rf rfl
theorem ct_X1_findNights : xm_Ct cI yX1_findNights (ws_ yX1_findNights cX1_findNights 2 (some .int)) 20 0 0 S_X1_findNights := xm_enter (rt := 0) (init := false) (by decide +kernel) rfl (fun h => by cases h) (Or.inl ⟨rfl, rfl⟩) (oX1_findNights) body_X1_findNights
theorem cv_X1_findNights {own : String} {cc : ByteArray} {fr pc idx : Nat} (hdg : decode cc pc = .ok (.invokevirtual idx, 3)) (hl : xm_ml own idx yX1_findNights) (hfr : 20 < fr) : xm_CallOK cI own cc fr pc (pc + 3) 1 0 0 (xm_this 0 S_X1_findNights) := xm_callV 0 cI_good (ct_X1_findNights) hdg hl q981 qs14 q116 q982 rfl rfl (by decide +kernel) hfr (by decide)
abbrev bX1_nights_0 : List xE := [(.aload_n 0, 1, 0, 0, 0), (.invokevirtual 365, 4, 0, 0, 9), (.ireturn, 5, 0, 0, 0)]
abbrev kX1_nights : List (Nat × List xE) := [(0, bX1_nights_0)]
abbrev lX1_nights : List (Nat × Nat × Nat × xS) := [(1, 0, 0, xm_this 0 S_X1_findNights)]
theorem oX1_nights_0  : xm_okb cI RX1 cX1_nights false 21 lX1_nights bX1_nights_0 0 := xo_0 dX1_nights_0 rfl trivial (xo_c rfl (cv_X1_findNights dX1_nights_1 (Or.inl q979) (by decide)) (xo_0 dX1_nights_4 rfl trivial (xo_n)))
theorem oX1_nights  : ∀ q ∈ kX1_nights, xm_okb cI RX1 cX1_nights false 21 lX1_nights q.2 q.1 := by
  intro q hq
  simp only [List.mem_cons, List.not_mem_nil, or_false] at hq
  subst hq
  exact oX1_nights_0  
def S_X1_nights : xS := cU fun as P Z I Q QX => ∃ L, as = [.ref 0] ∧ c_good P Z I L ∧ g_ok (cG P I L) ∧ c_P P Z L (cG P I L) Q QX (q_nights (cG P I L))
theorem body_X1_nights : xm_Body 1 0 0 0 [] lX1_nights kX1_nights S_X1_nights := by
  intro X avs w Q QX hX0 hS
  have hG := xm_go [] hX0
  have hX := xm_go [] hX0
  clear hX0
  obtain ⟨P, Z, I, rfl, L, rfl, hg, hk0, hQ⟩ := hS
  refine ⟨rfl, ?_⟩
  repeat' (first
    | ((with_reducible refine @And.intro (vp_in _ _) _ ?_ ?_); (· (first | with_reducible assumption | ((with_reducible refine t_vin ?_); decide) | ((with_reducible refine vp_in_nI ?_ ?_) <;> first | omega | decide) | (simp (disch := omega) only [xl_n, xl_m, nI_dec, nI_sb, nI_add, pk_mul]; (with_reducible refine vp_in_nI ?_ ?_) <;> first | omega | decide))); (conv => whnf))
    | (refine And.intro (by first | with_reducible assumption | exact (show cL _ _ = _ from rfl) | decide) ?_; (conv => whnf))
    | ((with_reducible refine @And.intro (_ = _) _ ?_ ?_); (· rfl); (conv => whnf))
    | ((with_reducible refine @And.intro (@LE.le Nat _ _ _) _ ?_ ?_); (· (first | exact Nat.zero_le _ | exact Nat.le_of_ble_eq_true rfl | omega)); (conv => whnf))
    | ((with_reducible refine @And.intro (@LT.lt Nat _ _ _) _ ?_ ?_); (· omega); (conv => whnf))
    | ((with_reducible refine @And.intro (∃ _, _ = _) _ ?_ ?_); (· exact ⟨_, rfl⟩); (conv => whnf))
    | ((with_reducible refine @And.intro (_ ∨ _) _ ?_ ?_); (· (first | exact Or.inl rfl | exact Or.inr rfl | exact t_b01 _ | assumption)); (conv => whnf))
    | ((with_reducible refine @And.intro (¬ (_ = _)) _ ?_ ?_); (· first | assumption | (with_reducible assumption)); (conv => whnf))
    | (refine hX _ _ _ _ _ _ ?_; (conv => whnf); fail_if_success show False)
    | (rw [c_si]; (conv => whnf))
    | (refine ⟨_, rfl, ?_⟩; (conv => whnf))
    | (refine ⟨_, _, rfl, ?_⟩; (conv => whnf))
    | (refine ⟨_, _, _, rfl, ?_⟩; (conv => whnf))
    | (refine ⟨_, _, _, _, rfl, ?_⟩; (conv => whnf))
    | (refine ⟨L,rfl,hg,hk0,?_⟩; (conv => whnf))
    | (refine And.intro (fun c => ?_) (fun c => ?_) <;> (first | (exact absurd c (by decide +kernel)) | (conv => whnf)))
    | fail)
  intro J hJ r _ _
  (conv => whnf)
  repeat' (first
    | ((with_reducible refine @And.intro (vp_in _ _) _ ?_ ?_); (· (first | with_reducible assumption | ((with_reducible refine t_vin ?_); decide) | ((with_reducible refine vp_in_nI ?_ ?_) <;> first | omega | decide) | (simp (disch := omega) only [xl_n, xl_m, nI_dec, nI_sb, nI_add, pk_mul]; (with_reducible refine vp_in_nI ?_ ?_) <;> first | omega | decide))); (conv => whnf))
    | (refine And.intro (by first | with_reducible assumption | exact (show cL _ _ = _ from rfl) | decide) ?_; (conv => whnf))
    | ((with_reducible refine @And.intro (_ = _) _ ?_ ?_); (· rfl); (conv => whnf))
    | ((with_reducible refine @And.intro (@LE.le Nat _ _ _) _ ?_ ?_); (· (first | exact Nat.zero_le _ | exact Nat.le_of_ble_eq_true rfl | omega)); (conv => whnf))
    | ((with_reducible refine @And.intro (@LT.lt Nat _ _ _) _ ?_ ?_); (· omega); (conv => whnf))
    | ((with_reducible refine @And.intro (∃ _, _ = _) _ ?_ ?_); (· exact ⟨_, rfl⟩); (conv => whnf))
    | ((with_reducible refine @And.intro (_ ∨ _) _ ?_ ?_); (· (first | exact Or.inl rfl | exact Or.inr rfl | exact t_b01 _ | assumption)); (conv => whnf))
    | ((with_reducible refine @And.intro (¬ (_ = _)) _ ?_ ?_); (· first | assumption | (with_reducible assumption)); (conv => whnf))
    | (refine hX _ _ _ _ _ _ ?_; (conv => whnf); fail_if_success show False)
    | (rw [c_si]; (conv => whnf))
    | (refine ⟨_, rfl, ?_⟩; (conv => whnf))
    | (refine ⟨_, _, rfl, ?_⟩; (conv => whnf))
    | (refine ⟨_, _, _, rfl, ?_⟩; (conv => whnf))
    | (refine ⟨_, _, _, _, rfl, ?_⟩; (conv => whnf))
    | (refine And.intro (fun c => ?_) (fun c => ?_) <;> (first | (exact absurd c (by decide +kernel)) | (conv => whnf)))
    | fail)
  exact c_ask hQ hg hJ.sp rfl
theorem ct_X1_nights : xm_Ct cI yX1_nights (ws_ yX1_nights cX1_nights 1 (some .int)) 21 0 0 S_X1_nights := xm_enter (rt := 0) (init := false) (by decide +kernel) rfl (fun h => by cases h) (Or.inl ⟨rfl, rfl⟩) (oX1_nights) body_X1_nights
theorem cv_X1_nights {own : String} {cc : ByteArray} {fr pc idx : Nat} (hdg : decode cc pc = .ok (.invokevirtual idx, 3)) (hl : xm_ml own idx yX1_nights) (hfr : 21 < fr) : xm_CallOK cI own cc fr pc (pc + 3) 1 0 0 (xm_this 0 S_X1_nights) := xm_callV 0 cI_good (ct_X1_nights) hdg hl q976 q977 q116 q978 rfl rfl (by decide +kernel) hfr (by decide)
abbrev bX1_night_0 : List xE := [(.aload_n 0, 1, 0, 0, 0), (.iload_n 1, 2, 0, 0, 0), (.invokevirtual 217, 5, 0, 0, 9), (.aload_n 0, 6, 0, 0, 0), (.invokevirtual 365, 9, 0, 1, 9), (.pop, 10, 0, 0, 0), (.aload_n 0, 11, 0, 0, 0), (.getfield 92, 14, 0, 21, 1), (.iload_n 1, 15, 0, 0, 0), (.iaload, 16, 0, 0, 0), (.ireturn, 17, 0, 0, 0)]
abbrev kX1_night : List (Nat × List xE) := [(0, bX1_night_0)]
abbrev lX1_night : List (Nat × Nat × Nat × xS) := [(2, 1, 6, xm_this 0 S_X1_needHand), (1, 0, 0, xm_this 0 S_X1_findNights)]
theorem oX1_night_0  : xm_okb cI RX1 cX1_night false 21 lX1_night bX1_night_0 0 := xo_0 dX1_night_0 rfl trivial (xo_0 dX1_night_1 rfl trivial (xo_c rfl (cv_X1_needHand dX1_night_2 (Or.inl q1576) (by decide)) (xo_0 dX1_night_5 rfl trivial (xo_c rfl (cv_X1_findNights dX1_night_6 (Or.inl q979) (by decide)) (xo_0 dX1_night_9 rfl trivial (xo_0 dX1_night_10 rfl trivial (xo_1 dX1_night_11 rfl (xm_fg_of (Or.inl q740) (by decide) rfl (by decide) rfl rfl (Or.inl rfl) rfl) (xo_0 dX1_night_14 rfl trivial (xo_0 dX1_night_15 rfl trivial (xo_0 dX1_night_16 rfl trivial (xo_n)))))))))))
theorem oX1_night  : ∀ q ∈ kX1_night, xm_okb cI RX1 cX1_night false 21 lX1_night q.2 q.1 := by
  intro q hq
  simp only [List.mem_cons, List.not_mem_nil, or_false] at hq
  subst hq
  exact oX1_night_0  
def S_X1_night : xS := cU fun as P Z I Q QX => ∃ a L, as = [.ref 0, .int a] ∧ c_good P Z I L ∧ g_ok (cG P I L) ∧ c_P P Z L (cG P I L) Q QX (q_night (cG P I L) a)
theorem body_X1_night : xm_Body 2 0 1 6 [] lX1_night kX1_night S_X1_night := by
  intro X avs w Q QX hX0 hS
  have hG := xm_go [] hX0
  have hX := xm_go [] hX0
  clear hX0
  obtain ⟨P, Z, I, rfl, a, L, rfl, hg, hk0, hQ⟩ := hS
  have hok := hg.ok
  have h9 := hok.2.1
  refine ⟨rfl, ?_⟩
  repeat' (first
    | ((with_reducible refine @And.intro (vp_in _ _) _ ?_ ?_); (· (first | with_reducible assumption | ((with_reducible refine t_vin ?_); decide) | ((with_reducible refine vp_in_nI ?_ ?_) <;> first | omega | decide) | (simp (disch := omega) only [xl_n, xl_m, nI_dec, nI_sb, nI_add, pk_mul]; (with_reducible refine vp_in_nI ?_ ?_) <;> first | omega | decide))); (conv => whnf))
    | (refine And.intro (by first | with_reducible assumption | exact (show cL _ _ = _ from rfl) | decide) ?_; (conv => whnf))
    | ((with_reducible refine @And.intro (_ = _) _ ?_ ?_); (· rfl); (conv => whnf))
    | ((with_reducible refine @And.intro (@LE.le Nat _ _ _) _ ?_ ?_); (· (first | exact Nat.zero_le _ | exact Nat.le_of_ble_eq_true rfl | omega)); (conv => whnf))
    | ((with_reducible refine @And.intro (@LT.lt Nat _ _ _) _ ?_ ?_); (· omega); (conv => whnf))
    | ((with_reducible refine @And.intro (∃ _, _ = _) _ ?_ ?_); (· exact ⟨_, rfl⟩); (conv => whnf))
    | ((with_reducible refine @And.intro (_ ∨ _) _ ?_ ?_); (· (first | exact Or.inl rfl | exact Or.inr rfl | exact t_b01 _ | assumption)); (conv => whnf))
    | ((with_reducible refine @And.intro (¬ (_ = _)) _ ?_ ?_); (· first | assumption | (with_reducible assumption)); (conv => whnf))
    | (refine hX _ _ _ _ _ _ ?_; (conv => whnf); fail_if_success show False)
    | (rw [c_si]; (conv => whnf))
    | (refine ⟨_, rfl, ?_⟩; (conv => whnf))
    | (refine ⟨_, _, rfl, ?_⟩; (conv => whnf))
    | (refine ⟨_, _, _, rfl, ?_⟩; (conv => whnf))
    | (refine ⟨_, _, _, _, rfl, ?_⟩; (conv => whnf))
    | (refine ⟨a,rfl,hok,?_⟩; (conv => whnf))
    | fail)
  refine ⟨fun e => ?_, fun e x hx => ?_⟩
  · obtain ⟨h, hh, rfl⟩ := t_in_of (by omega) e
    have f : g_isH (cG P I L) (nI h) = true := e
    rw [q_night, f, g_ck_t, nI_clamp (by omega)] at hQ
    (conv => whnf)
    repeat' (first
      | ((with_reducible refine @And.intro (vp_in _ _) _ ?_ ?_); (· (first | with_reducible assumption | ((with_reducible refine t_vin ?_); decide) | ((with_reducible refine vp_in_nI ?_ ?_) <;> first | omega | decide) | (simp (disch := omega) only [xl_n, xl_m, nI_dec, nI_sb, nI_add, pk_mul]; (with_reducible refine vp_in_nI ?_ ?_) <;> first | omega | decide))); (conv => whnf))
      | (refine And.intro (by first | with_reducible assumption | exact (show cL _ _ = _ from rfl) | decide) ?_; (conv => whnf))
      | ((with_reducible refine @And.intro (_ = _) _ ?_ ?_); (· rfl); (conv => whnf))
      | ((with_reducible refine @And.intro (@LE.le Nat _ _ _) _ ?_ ?_); (· (first | exact Nat.zero_le _ | exact Nat.le_of_ble_eq_true rfl | omega)); (conv => whnf))
      | ((with_reducible refine @And.intro (@LT.lt Nat _ _ _) _ ?_ ?_); (· omega); (conv => whnf))
      | ((with_reducible refine @And.intro (∃ _, _ = _) _ ?_ ?_); (· exact ⟨_, rfl⟩); (conv => whnf))
      | ((with_reducible refine @And.intro (_ ∨ _) _ ?_ ?_); (· (first | exact Or.inl rfl | exact Or.inr rfl | exact t_b01 _ | assumption)); (conv => whnf))
      | ((with_reducible refine @And.intro (¬ (_ = _)) _ ?_ ?_); (· first | assumption | (with_reducible assumption)); (conv => whnf))
      | (refine hX _ _ _ _ _ _ ?_; (conv => whnf); fail_if_success show False)
      | (rw [c_si]; (conv => whnf))
      | (refine ⟨_, rfl, ?_⟩; (conv => whnf))
      | (refine ⟨_, _, rfl, ?_⟩; (conv => whnf))
      | (refine ⟨_, _, _, rfl, ?_⟩; (conv => whnf))
      | (refine ⟨_, _, _, _, rfl, ?_⟩; (conv => whnf))
      | (refine ⟨L,rfl,hg,hk0,?_⟩; (conv => whnf))
      | (refine And.intro (fun c => ?_) (fun c => ?_) <;> (first | (exact absurd c (by decide +kernel)) | (conv => whnf)))
      | fail)
    intro J hJ r er hr
    have er2 : g_seat (cG P I L) (g_nt (cG P I L)) (gn (gGK (cG P I L))) [] = some r := er
    rw [er2] at hQ
    have hl := g_seat_l er
    have hv := hr h (by rw [hl]; show h < 0 + c_h I; omega)
    have hh9 : h < 9 := by omega
    (conv => whnf)
    repeat' (first
      | ((with_reducible refine @And.intro (vp_in _ _) _ ?_ ?_); (· (first | with_reducible assumption | ((with_reducible refine t_vin ?_); decide) | ((with_reducible refine vp_in_nI ?_ ?_) <;> first | omega | decide) | (simp (disch := omega) only [xl_n, xl_m, nI_dec, nI_sb, nI_add, pk_mul]; (with_reducible refine vp_in_nI ?_ ?_) <;> first | omega | decide))); (conv => whnf))
      | (refine And.intro (by first | with_reducible assumption | exact (show cL _ _ = _ from rfl) | decide) ?_; (conv => whnf))
      | ((with_reducible refine @And.intro (_ = _) _ ?_ ?_); (· rfl); (conv => whnf))
      | ((with_reducible refine @And.intro (@LE.le Nat _ _ _) _ ?_ ?_); (· (first | exact Nat.zero_le _ | exact Nat.le_of_ble_eq_true rfl | omega)); (conv => whnf))
      | ((with_reducible refine @And.intro (@LT.lt Nat _ _ _) _ ?_ ?_); (· omega); (conv => whnf))
      | ((with_reducible refine @And.intro (∃ _, _ = _) _ ?_ ?_); (· exact ⟨_, rfl⟩); (conv => whnf))
      | ((with_reducible refine @And.intro (_ ∨ _) _ ?_ ?_); (· (first | exact Or.inl rfl | exact Or.inr rfl | exact t_b01 _ | assumption)); (conv => whnf))
      | ((with_reducible refine @And.intro (¬ (_ = _)) _ ?_ ?_); (· first | assumption | (with_reducible assumption)); (conv => whnf))
      | (refine hX _ _ _ _ _ _ ?_; (conv => whnf); fail_if_success show False)
      | (rw [c_si]; (conv => whnf))
      | (refine ⟨_, rfl, ?_⟩; (conv => whnf))
      | (refine ⟨_, _, rfl, ?_⟩; (conv => whnf))
      | (refine ⟨_, _, _, rfl, ?_⟩; (conv => whnf))
      | (refine ⟨_, _, _, _, rfl, ?_⟩; (conv => whnf))
      | (refine And.intro (fun c => ?_) (fun c => ?_) <;> (first | (exact absurd c (by decide +kernel)) | (conv => whnf)))
      | fail)
    refine c_ask hQ hg hJ.sp ?_
    show J 21 (nI h).toNatClampNeg = _
    rw [nI_clamp (by omega), hv]
    rfl
  · exact c_ref0 hQ hg e hx n1_0
theorem ct_X1_night : xm_Ct cI yX1_night (ws_ yX1_night cX1_night 2 (some .int)) 21 1 6 S_X1_night := xm_enter (rt := 0) (init := false) (by decide +kernel) rfl (fun h => by cases h) (Or.inl ⟨rfl, rfl⟩) (oX1_night) body_X1_night
theorem cv_X1_night {own : String} {cc : ByteArray} {fr pc idx : Nat} (hdg : decode cc pc = .ok (.invokevirtual idx, 3)) (hl : xm_ml own idx yX1_night) (hfr : 21 < fr) : xm_CallOK cI own cc fr pc (pc + 3) 2 1 6 (xm_this 0 S_X1_night) := xm_callV 0 cI_good (ct_X1_night) hdg hl q1784 q1785 q116 q1786 rfl rfl (by decide +kernel) hfr (by decide)

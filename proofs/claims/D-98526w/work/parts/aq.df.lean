/-! ===== the component: two acts at once, whom a hand reaches ===== -/
set_option maxRecDepth 100000
set_option maxHeartbeats 400000
def g_pany (G : gG) (T : gT) (al used : Int32) (p : Nat) (r : gP) (f : List Int32 → Bool) (k : Nat) : Bool := (g_sets G al used p k).any fun s => (g_cs G T al r (used ||| s)).any fun c => f (s :: c)
theorem g_pany_s {G : gG} {T : gT} {al used : Int32} {p k : Nat} {r : gP} {f : List Int32 → Bool} : g_pany G T al used p r f (k + 1) = (g_pany G T al used p r f k || (g_can G al used p (nI (k + 1)) && (g_cs G T al r (used ||| nI (k + 1))).any fun c => f (nI (k + 1) :: c))) := by
  unfold g_pany
  rw [g_sets_s, List.any_append]
  cases g_can G al used p (nI (k + 1)) with
  | true => simp
  | false => simp
theorem g_cs_any {G : gG} {T : gT} {al used l : Int32} {p : Nat} {r : gP} {f : List Int32 → Bool} (h9 : gn (gGK G) ≤ 9) (hal : ∀ k, k < 32 → t_has al k = true → k < gn (gGK G)) (hl : l ≤ gs T p) : (g_cs G T al ((p, l) :: r) used).any f = g_pany G T al used p r f 511 := by
  unfold g_pany
  rw [g_cs_c, if_pos hl, List.any_flatMap, g_sets_511 h9 hal]
  congr 1
  funext s
  rw [List.any_map]
  rfl
theorem g_pany_t {G : gG} {T : gT} {al used : Int32} {p k : Nat} {r : gP} {f : List Int32 → Bool} (h : g_pany G T al used p r f k = true) : ∀ {n : Nat}, k ≤ n → g_pany G T al used p r f n = true
  | 0, hk => by
    rw [← show k = 0 by omega]
    exact h
  | n + 1, hk => by
    by_cases e : k = n + 1
    · rw [← e]
      exact h
    · rw [g_pany_s, g_pany_t h (by omega)]
      rfl
def c_two (G : gG) (a b i : Nat) : Nat := if i < gmany G a then gpup G a i else gpup G b (i - gmany G a)
def S_X1_bothOn (d : Nat) : xS := match d with
  | 0 => fun _ _ _ _ => False
  | d + 1 => cU fun as P Z I Q QX => ∃ (a b k : Nat) (L : List lC) (T : gT) (al left used : Int32) (rest : gP), as = [.ref 0, .ref (80 + a), .ref (80 + b), .int (nI k), .int left, .int used] ∧ c_good P Z I L ∧ g_ok (cG P I L) ∧ a < P.1 ∧ b < P.1 ∧ k + rest.length = gmany (cG P I L) a + gmany (cG P I L) b ∧ rest.length ≤ d ∧ (∀ i p l, rest[i]? = some (p, l) → p = c_two (cG P I L) a b (k + i) ∧ l ≤ gs T p) ∧ c_lu (cG P I L) al left used ∧ Q (some (.int (t_b ((g_cs (cG P I L) T al rest used).any fun _ => true)))) I
abbrev bX1_bothOn_0 : List xE := [(.iload_n 3, 1, 0, 0, 0), (.aload_n 1, 2, 0, 0, 0), (.getfield 328, 5, 11, 2, 0), (.aload_n 2, 6, 0, 0, 0), (.getfield 328, 9, 11, 2, 0), (.iadd, 10, 0, 0, 0), (.if_icmp .ne 5, 13, 0, 15, 0), (.iconst 1, 14, 0, 0, 0), (.ireturn, 15, 0, 0, 0)]
abbrev bX1_bothOn_15 : List xE := [(.iload_n 3, 16, 0, 0, 0), (.aload_n 1, 17, 0, 0, 0), (.getfield 328, 20, 11, 2, 0), (.if_icmp .ge 12, 23, 0, 32, 0), (.aload_n 1, 24, 0, 0, 0), (.getfield 331, 27, 11, 1, 1), (.iload_n 3, 28, 0, 0, 0), (.iaload, 29, 0, 0, 0), (.goto 14, 32, 0, 43, 0)]
abbrev bX1_bothOn_32 : List xE := [(.aload_n 2, 33, 0, 0, 0), (.getfield 331, 36, 11, 1, 1), (.iload_n 3, 37, 0, 0, 0), (.aload_n 1, 38, 0, 0, 0), (.getfield 328, 41, 11, 2, 0), (.isub, 42, 0, 0, 0), (.iaload, 43, 0, 0, 0)]
abbrev bX1_bothOn_43 : List xE := [(.istore 6, 45, 0, 0, 0), (.iload 4, 47, 0, 0, 0), (.aload_n 0, 48, 0, 0, 0), (.getfield 31, 51, 0, 0, 1), (.getfield 334, 54, 1, 9, 1), (.iload 6, 56, 0, 0, 0), (.iaload, 57, 0, 0, 0), (.iconst (-1), 58, 0, 0, 0), (.ixor, 59, 0, 0, 0), (.iand, 60, 0, 0, 0), (.istore 7, 62, 0, 0, 0), (.iconst 1, 63, 0, 0, 0), (.istore 8, 65, 0, 0, 0)]
abbrev bX1_bothOn_65 : List xE := [(.iload 8, 67, 0, 0, 0), (.sipush 512, 70, 0, 0, 0), (.if_icmp .ge 78, 73, 0, 148, 0), (.iload 8, 75, 0, 0, 0), (.iload 7, 77, 0, 0, 0), (.iconst (-1), 78, 0, 0, 0), (.ixor, 79, 0, 0, 0), (.iand, 80, 0, 0, 0), (.ifCond .ne 62, 83, 0, 142, 0), (.iload 8, 85, 0, 0, 0), (.invokestatic 207, 88, 0, 0, 9), (.aload_n 0, 89, 0, 0, 0), (.getfield 31, 92, 0, 0, 1), (.getfield 244, 95, 1, 6, 1), (.iload 6, 97, 0, 0, 0), (.iaload, 98, 0, 0, 0), (.if_icmp .ne 44, 101, 0, 142, 0), (.aload_n 0, 102, 0, 0, 0), (.iload 5, 104, 0, 0, 0), (.iload 8, 106, 0, 0, 0), (.ior, 107, 0, 0, 0), (.invokevirtual 337, 110, 0, 1, 9), (.ifCond .eq 6, 113, 0, 116, 0), (.goto 29, 116, 0, 142, 0)]
abbrev bX1_bothOn_116 : List xE := [(.aload_n 0, 117, 0, 0, 0), (.aload_n 1, 118, 0, 0, 0), (.aload_n 2, 119, 0, 0, 0), (.iload_n 3, 120, 0, 0, 0), (.iconst 1, 121, 0, 0, 0), (.iadd, 122, 0, 0, 0), (.iload 4, 124, 0, 0, 0), (.iload 8, 126, 0, 0, 0), (.iconst (-1), 127, 0, 0, 0), (.ixor, 128, 0, 0, 0), (.iand, 129, 0, 0, 0), (.iload 5, 131, 0, 0, 0), (.iload 8, 133, 0, 0, 0), (.ior, 134, 0, 0, 0), (.invokevirtual 380, 137, 0, 2, 9), (.ifCond .eq 5, 140, 0, 142, 0), (.iconst 1, 141, 0, 0, 0), (.ireturn, 142, 0, 0, 0)]
abbrev bX1_bothOn_142 : List xE := [(.iinc 8 1, 145, 0, 0, 0), (.goto (-80), 148, 0, 65, 0)]
abbrev bX1_bothOn_148 : List xE := [(.iconst 0, 149, 0, 0, 0), (.ireturn, 150, 0, 0, 0)]
abbrev kX1_bothOn : List (Nat × List xE) := [(0, bX1_bothOn_0), (15, bX1_bothOn_15), (32, bX1_bothOn_32), (43, bX1_bothOn_43), (65, bX1_bothOn_65), (116, bX1_bothOn_116), (142, bX1_bothOn_142), (148, bX1_bothOn_148)]
abbrev lX1_bothOn (d : Nat) : List (Nat × Nat × Nat × xS) := [(1, 0, 0, S_J16_bitCount), (2, 0, 0, xm_this 0 S_X1_isSilent), (6, 0, 0, (xm_this 0 (S_X1_bothOn d)))]
theorem oX1_bothOn_0 (d : Nat)  (ih_X1_bothOn : xm_Ct cI yX1_bothOn (ws_ yX1_bothOn cX1_bothOn 9 (some .boolean)) (d + 9) 0 0 (S_X1_bothOn d)): xm_okb cI RX1 cX1_bothOn false (d + 10) (lX1_bothOn d) bX1_bothOn_0 0 := xo_0 dX1_bothOn_0 rfl trivial (xo_0 dX1_bothOn_1 rfl trivial (xo_0 dX1_bothOn_2 rfl (xm_fg_of (Or.inr ⟨_, q1307⟩) (by decide) rfl (by decide) rfl rfl (Or.inl rfl) rfl) (xo_0 dX1_bothOn_5 rfl trivial (xo_0 dX1_bothOn_6 rfl (xm_fg_of (Or.inr ⟨_, q1307⟩) (by decide) rfl (by decide) rfl rfl (Or.inl rfl) rfl) (xo_0 dX1_bothOn_9 rfl trivial (xo_0 dX1_bothOn_10 rfl rfl (xo_0 dX1_bothOn_13 rfl trivial (xo_0 dX1_bothOn_14 rfl trivial (xo_n)))))))))
theorem oX1_bothOn_15 (d : Nat)  (ih_X1_bothOn : xm_Ct cI yX1_bothOn (ws_ yX1_bothOn cX1_bothOn 9 (some .boolean)) (d + 9) 0 0 (S_X1_bothOn d)): xm_okb cI RX1 cX1_bothOn false (d + 10) (lX1_bothOn d) bX1_bothOn_15 15 := xo_0 dX1_bothOn_15 rfl trivial (xo_0 dX1_bothOn_16 rfl trivial (xo_0 dX1_bothOn_17 rfl (xm_fg_of (Or.inr ⟨_, q1307⟩) (by decide) rfl (by decide) rfl rfl (Or.inl rfl) rfl) (xo_0 dX1_bothOn_20 rfl rfl (xo_0 dX1_bothOn_23 rfl trivial (xo_1 dX1_bothOn_24 rfl (xm_fg_of (Or.inr ⟨_, q1304⟩) (by decide) rfl (by decide) rfl rfl (Or.inl rfl) rfl) (xo_0 dX1_bothOn_27 rfl trivial (xo_0 dX1_bothOn_28 rfl trivial (xo_0 dX1_bothOn_29 rfl rfl (xo_n)))))))))
theorem oX1_bothOn_32 (d : Nat)  (ih_X1_bothOn : xm_Ct cI yX1_bothOn (ws_ yX1_bothOn cX1_bothOn 9 (some .boolean)) (d + 9) 0 0 (S_X1_bothOn d)): xm_okb cI RX1 cX1_bothOn false (d + 10) (lX1_bothOn d) bX1_bothOn_32 32 := xo_0 dX1_bothOn_32 rfl trivial (xo_1 dX1_bothOn_33 rfl (xm_fg_of (Or.inr ⟨_, q1304⟩) (by decide) rfl (by decide) rfl rfl (Or.inl rfl) rfl) (xo_0 dX1_bothOn_36 rfl trivial (xo_0 dX1_bothOn_37 rfl trivial (xo_0 dX1_bothOn_38 rfl (xm_fg_of (Or.inr ⟨_, q1307⟩) (by decide) rfl (by decide) rfl rfl (Or.inl rfl) rfl) (xo_0 dX1_bothOn_41 rfl trivial (xo_0 dX1_bothOn_42 rfl trivial (xo_n)))))))
theorem oX1_bothOn_43 (d : Nat)  (ih_X1_bothOn : xm_Ct cI yX1_bothOn (ws_ yX1_bothOn cX1_bothOn 9 (some .boolean)) (d + 9) 0 0 (S_X1_bothOn d)): xm_okb cI RX1 cX1_bothOn false (d + 10) (lX1_bothOn d) bX1_bothOn_43 43 := xo_0 dX1_bothOn_43 rfl trivial (xo_0 dX1_bothOn_45 rfl trivial (xo_0 dX1_bothOn_47 rfl trivial (xo_1 dX1_bothOn_48 rfl (xm_fg_of (Or.inl q716) (by decide) rfl (by decide) rfl rfl (Or.inl rfl) rfl) (xo_1 dX1_bothOn_51 rfl (xm_fg_of (Or.inr ⟨_, q549⟩) (by decide) rfl (by decide) rfl rfl (Or.inl rfl) rfl) (xo_0 dX1_bothOn_54 rfl trivial (xo_0 dX1_bothOn_56 rfl trivial (xo_0 dX1_bothOn_57 rfl trivial (xo_0 dX1_bothOn_58 rfl trivial (xo_0 dX1_bothOn_59 rfl trivial (xo_0 dX1_bothOn_60 rfl trivial (xo_0 dX1_bothOn_62 rfl trivial (xo_0 dX1_bothOn_63 rfl trivial (xo_n)))))))))))))
theorem oX1_bothOn_65 (d : Nat)  (ih_X1_bothOn : xm_Ct cI yX1_bothOn (ws_ yX1_bothOn cX1_bothOn 9 (some .boolean)) (d + 9) 0 0 (S_X1_bothOn d)): xm_okb cI RX1 cX1_bothOn false (d + 10) (lX1_bothOn d) bX1_bothOn_65 65 := xo_0 dX1_bothOn_65 rfl trivial (xo_0 dX1_bothOn_67 rfl (xo_sipush (by decide +kernel)) (xo_0 dX1_bothOn_70 rfl rfl (xo_0 dX1_bothOn_73 rfl trivial (xo_0 dX1_bothOn_75 rfl trivial (xo_0 dX1_bothOn_77 rfl trivial (xo_0 dX1_bothOn_78 rfl trivial (xo_0 dX1_bothOn_79 rfl trivial (xo_0 dX1_bothOn_80 rfl rfl (xo_0 dX1_bothOn_83 rfl trivial (xo_c rfl (cv_J16_bitCount dX1_bothOn_85 (Or.inl q846) (by omega)) (xo_0 dX1_bothOn_88 rfl trivial (xo_1 dX1_bothOn_89 rfl (xm_fg_of (Or.inl q716) (by decide) rfl (by decide) rfl rfl (Or.inl rfl) rfl) (xo_1 dX1_bothOn_92 rfl (xm_fg_of (Or.inr ⟨_, q539⟩) (by decide) rfl (by decide) rfl rfl (Or.inl rfl) rfl) (xo_0 dX1_bothOn_95 rfl trivial (xo_0 dX1_bothOn_97 rfl trivial (xo_0 dX1_bothOn_98 rfl rfl (xo_0 dX1_bothOn_101 rfl trivial (xo_0 dX1_bothOn_102 rfl trivial (xo_0 dX1_bothOn_104 rfl trivial (xo_0 dX1_bothOn_106 rfl trivial (xo_c rfl (cv_X1_isSilent dX1_bothOn_107 (Or.inl q852) (by omega)) (xo_0 dX1_bothOn_110 rfl rfl (xo_0 dX1_bothOn_113 rfl rfl (xo_n))))))))))))))))))))))))
theorem oX1_bothOn_116 (d : Nat)  (ih_X1_bothOn : xm_Ct cI yX1_bothOn (ws_ yX1_bothOn cX1_bothOn 9 (some .boolean)) (d + 9) 0 0 (S_X1_bothOn d)): xm_okb cI RX1 cX1_bothOn false (d + 10) (lX1_bothOn d) bX1_bothOn_116 116 := xo_0 dX1_bothOn_116 rfl trivial (xo_0 dX1_bothOn_117 rfl trivial (xo_0 dX1_bothOn_118 rfl trivial (xo_0 dX1_bothOn_119 rfl trivial (xo_0 dX1_bothOn_120 rfl trivial (xo_0 dX1_bothOn_121 rfl trivial (xo_0 dX1_bothOn_122 rfl trivial (xo_0 dX1_bothOn_124 rfl trivial (xo_0 dX1_bothOn_126 rfl trivial (xo_0 dX1_bothOn_127 rfl trivial (xo_0 dX1_bothOn_128 rfl trivial (xo_0 dX1_bothOn_129 rfl trivial (xo_0 dX1_bothOn_131 rfl trivial (xo_0 dX1_bothOn_133 rfl trivial (xo_c rfl (xm_callV 0 cI_good ih_X1_bothOn dX1_bothOn_134 (Or.inl q1866) q1868 qs46 q116 q1869 rfl rfl (by decide +kernel) (by omega) (by decide)) (xo_0 dX1_bothOn_137 rfl rfl (xo_0 dX1_bothOn_140 rfl trivial (xo_0 dX1_bothOn_141 rfl trivial (xo_n))))))))))))))))))
theorem oX1_bothOn_142 (d : Nat)  (ih_X1_bothOn : xm_Ct cI yX1_bothOn (ws_ yX1_bothOn cX1_bothOn 9 (some .boolean)) (d + 9) 0 0 (S_X1_bothOn d)): xm_okb cI RX1 cX1_bothOn false (d + 10) (lX1_bothOn d) bX1_bothOn_142 142 := xo_0 dX1_bothOn_142 rfl trivial (xo_0 dX1_bothOn_145 rfl rfl (xo_n))
theorem oX1_bothOn_148 (d : Nat)  (ih_X1_bothOn : xm_Ct cI yX1_bothOn (ws_ yX1_bothOn cX1_bothOn 9 (some .boolean)) (d + 9) 0 0 (S_X1_bothOn d)): xm_okb cI RX1 cX1_bothOn false (d + 10) (lX1_bothOn d) bX1_bothOn_148 148 := xo_0 dX1_bothOn_148 rfl trivial (xo_0 dX1_bothOn_149 rfl trivial (xo_n))
theorem oX1_bothOn (d : Nat)  (ih_X1_bothOn : xm_Ct cI yX1_bothOn (ws_ yX1_bothOn cX1_bothOn 9 (some .boolean)) (d + 9) 0 0 (S_X1_bothOn d)): ∀ q ∈ kX1_bothOn, xm_okb cI RX1 cX1_bothOn false (d + 10) (lX1_bothOn d) q.2 q.1 := by
  intro q hq
  simp only [List.mem_cons, List.not_mem_nil, or_false] at hq
  rcases hq with rfl | rfl | rfl | rfl | rfl | rfl | rfl | rfl
  · exact oX1_bothOn_0 d  ih_X1_bothOn
  · exact oX1_bothOn_15 d  ih_X1_bothOn
  · exact oX1_bothOn_32 d  ih_X1_bothOn
  · exact oX1_bothOn_43 d  ih_X1_bothOn
  · exact oX1_bothOn_65 d  ih_X1_bothOn
  · exact oX1_bothOn_116 d  ih_X1_bothOn
  · exact oX1_bothOn_142 d  ih_X1_bothOn
  · exact oX1_bothOn_148 d  ih_X1_bothOn
theorem body_X1_bothOn (d : Nat) : xm_Body 9 1 0 0 [] (lX1_bothOn d) kX1_bothOn (S_X1_bothOn (d + 1)) := by
  intro X avs w Q QX hX0 hS
  have hG := xm_go [] hX0
  have hX := xm_go [65,142] hX0
  clear hX0
  obtain ⟨P, Z, I, rfl, a, b, k, L, T, al, left, used, rest, rfl, hg, hk0, ha, hb, hlen, hd, hrest, hlu, hQ⟩ := hS
  have hok := hg.ok
  obtain ⟨hn, h9, hm, h8⟩ := id hok
  have h6 := hg.ls.1
  obtain ⟨a2, a6, -, -⟩ := hg.2.2.2.1 a ha
  obtain ⟨b2, b6, -, -⟩ := hg.2.2.2.1 b hb
  have ema : gmany (cG P I L) a = c_am P I a := rfl
  have emb : gmany (cG P I L) b = c_am P I b := rfl
  rw [ema, emb] at hlen
  have es : I (80 + a) 2 + I (80 + b) 2 = nI (c_am P I a + c_am P I b) := by rw [a2, b2, nI_add]
  refine ⟨rfl, ?_⟩
  rcases rest with _ | ⟨⟨p, l⟩, r⟩
  · have dm : nI k = I (80 + a) 2 + I (80 + b) 2 := by
      rw [es, ← hlen]
      rfl
    repeat' (first
      | ((with_reducible refine @And.intro (vp_in _ _) _ ?_ ?_); (· (first | with_reducible assumption | ((with_reducible refine t_vin ?_); decide) | ((with_reducible refine vp_in_nI ?_ ?_) <;> first | omega | decide) | (simp (disch := omega) only [xl_n, xl_m, nI_dec, nI_sb, nI_add, pk_mul]; (with_reducible refine vp_in_nI ?_ ?_) <;> first | omega | decide))); (conv => whnf))
      | (refine And.intro (by first | with_reducible assumption | exact (show cL _ _ = _ from rfl) | decide) ?_; (conv => whnf))
      | ((with_reducible refine @And.intro (_ = _) _ ?_ ?_); (· rfl); (conv => whnf))
      | ((with_reducible refine @And.intro (@LE.le Nat _ _ _) _ ?_ ?_); (· (first | exact Nat.zero_le _ | exact Nat.le_of_ble_eq_true rfl | omega)); (conv => whnf))
      | ((with_reducible refine @And.intro (@LT.lt Nat _ _ _) _ ?_ ?_); (· omega); (conv => whnf))
      | ((with_reducible refine @And.intro (∃ _, _ = _) _ ?_ ?_); (· exact ⟨_, rfl⟩); (conv => whnf))
      | ((with_reducible refine @And.intro (_ ∨ _) _ ?_ ?_); (· (first | exact Or.inl rfl | exact Or.inr rfl | exact t_b01 _ | assumption)); (conv => whnf))
      | ((with_reducible refine @And.intro (¬ (_ = _)) _ ?_ ?_); (· first | assumption | (with_reducible assumption)); (conv => whnf))
      | (refine hX _ _ _ _ _ _ ?_; (conv => whnf); fail_if_success show False)
      | (rw [c_si]; (conv => whnf))
      | (refine ⟨_, rfl, ?_⟩; (conv => whnf))
      | (refine ⟨_, _, rfl, ?_⟩; (conv => whnf))
      | (refine ⟨_, _, _, rfl, ?_⟩; (conv => whnf))
      | (refine ⟨_, _, _, _, rfl, ?_⟩; (conv => whnf))
      | (rw [c_ac ha h6]; (conv => whnf))
      | (rw [c_ac hb h6]; (conv => whnf))
      | (refine And.intro (fun c => ?_) (fun c => ?_) <;> (first | (exact absurd c (by decide +kernel)) | (exact absurd c (by assumption)) | (exact False.elim (c (by assumption))) | (conv => whnf)))
      | fail)
    exact hQ
  · obtain ⟨d', rfl⟩ : ∃ d', d = d' + 1 := ⟨d - 1, by simp at hd; omega⟩
    rw [List.length_cons] at hlen
    have dm : ¬ nI k = I (80 + a) 2 + I (80 + b) 2 := by
      rw [es, nI_eq (by omega) (by omega)]
      omega
    obtain ⟨ep, hstr⟩ := hrest 0 p l rfl
    rw [Nat.add_zero] at ep
    have hp : p < c_p I := by
      rw [ep]
      unfold c_two
      by_cases q : k < gmany (cG P I L) a
      · rw [if_pos q]
        exact (c_pup hg ha q).1
      · rw [if_neg q]
        exact (c_pup hg hb (by omega)).1
    have equar : gquar (gGK (cG P I L)) p = I 39 p := cK_quar hp
    have eneed : gneeds (gGK (cG P I L)) p = I 36 p := cK_needs hp
    rw [g_cs_any (G := cG P I L) h9 hlu.2.2 hstr] at hQ
    have l2 : ∀ j, j ≤ 511 → g_pany (cG P I L) T al used p r (fun _ => true) j = false → X 65 [some (.ref 0), some (.ref (80 + a)), some (.ref (80 + b)), some (.int (nI k)), some (.int left), some (.int used), some (.int (nI p)), some (.int (left &&& (I 39 p ^^^ nM))), some (.int (nI (j + 1)))] [] (cW P Z I) 0 0 := by
      refine t_for fun j h1 ih hno => ?_
      by_cases hj : j = 511
      · subst hj
        have d1 : Int32.ofInt 512 ≤ nI (511 + 1) := by decide +kernel
        rw [hno] at hQ
        clear ih
        refine hG _ _ _ _ _ _ ?_
        (conv => whnf)
        repeat' (first
          | ((with_reducible refine @And.intro (vp_in _ _) _ ?_ ?_); (· (first | with_reducible assumption | ((with_reducible refine t_vin ?_); decide) | ((with_reducible refine vp_in_nI ?_ ?_) <;> first | omega | decide) | (simp (disch := omega) only [xl_n, xl_m, nI_dec, nI_sb, nI_add, pk_mul]; (with_reducible refine vp_in_nI ?_ ?_) <;> first | omega | decide))); (conv => whnf))
          | (refine And.intro (by first | with_reducible assumption | exact (show cL _ _ = _ from rfl) | decide) ?_; (conv => whnf))
          | ((with_reducible refine @And.intro (_ = _) _ ?_ ?_); (· rfl); (conv => whnf))
          | ((with_reducible refine @And.intro (@LE.le Nat _ _ _) _ ?_ ?_); (· (first | exact Nat.zero_le _ | exact Nat.le_of_ble_eq_true rfl | omega)); (conv => whnf))
          | ((with_reducible refine @And.intro (@LT.lt Nat _ _ _) _ ?_ ?_); (· omega); (conv => whnf))
          | ((with_reducible refine @And.intro (∃ _, _ = _) _ ?_ ?_); (· exact ⟨_, rfl⟩); (conv => whnf))
          | ((with_reducible refine @And.intro (_ ∨ _) _ ?_ ?_); (· (first | exact Or.inl rfl | exact Or.inr rfl | exact t_b01 _ | assumption)); (conv => whnf))
          | ((with_reducible refine @And.intro (¬ (_ = _)) _ ?_ ?_); (· first | assumption | (with_reducible assumption)); (conv => whnf))
          | (refine hX _ _ _ _ _ _ ?_; (conv => whnf); fail_if_success show False)
          | (rw [c_si]; (conv => whnf))
          | (refine ⟨_, rfl, ?_⟩; (conv => whnf))
          | (refine ⟨_, _, rfl, ?_⟩; (conv => whnf))
          | (refine ⟨_, _, _, rfl, ?_⟩; (conv => whnf))
          | (refine ⟨_, _, _, _, rfl, ?_⟩; (conv => whnf))
          | (refine And.intro (fun c => ?_) (fun c => ?_) <;> (first | (exact absurd c (by decide +kernel)) | (exact absurd c (by assumption)) | (exact False.elim (c (by assumption))) | (conv => whnf)))
          | fail)
        exact hQ
      · have d1 : ¬ Int32.ofInt 512 ≤ nI (j + 1) := by
          rw [show Int32.ofInt 512 = nI 512 by decide +kernel, nI_leI (by omega) (by omega)]
          omega
        have eflt : c_flt (cG P I L) left used p (nI (j + 1)) = (decide (nI (j + 1) &&& ((left &&& (I 39 p ^^^ nM)) ^^^ nM) = nI 0) && decide (t_ones (nI (j + 1)) = I 36 p) && !g_sil (cG P I L) (used ||| nI (j + 1))) := by
          unfold c_flt
          rw [equar, eneed]
        have ecan := c_flt_eq (p := p) (s := nI (j + 1)) hk0.2.1 h9 hlu
        have m9 := t_m9_s (k := j) (by omega)
        have x142 : (g_can (cG P I L) al used p (nI (j + 1)) && (g_cs (cG P I L) T al r (used ||| nI (j + 1))).any fun _ => true) = false → X 142 [some (.ref 0), some (.ref (80 + a)), some (.ref (80 + b)), some (.int (nI k)), some (.int left), some (.int used), some (.int (nI p)), some (.int (left &&& (I 39 p ^^^ nM))), some (.int (nI (j + 1)))] [] (cW P Z I) 0 0 := fun e => by
          have := ih (j + 1) (by omega) (by omega) (by rw [g_pany_s, hno, e]; rfl)
          clear ih
          refine hG _ _ _ _ _ _ ?_
          (conv => whnf)
          repeat' (first
            | ((with_reducible refine @And.intro (vp_in _ _) _ ?_ ?_); (· (first | with_reducible assumption | ((with_reducible refine t_vin ?_); decide) | ((with_reducible refine vp_in_nI ?_ ?_) <;> first | omega | decide) | (simp (disch := omega) only [xl_n, xl_m, nI_dec, nI_sb, nI_add, pk_mul]; (with_reducible refine vp_in_nI ?_ ?_) <;> first | omega | decide))); (conv => whnf))
            | (refine And.intro (by first | with_reducible assumption | exact (show cL _ _ = _ from rfl) | decide) ?_; (conv => whnf))
            | ((with_reducible refine @And.intro (_ = _) _ ?_ ?_); (· rfl); (conv => whnf))
            | ((with_reducible refine @And.intro (@LE.le Nat _ _ _) _ ?_ ?_); (· (first | exact Nat.zero_le _ | exact Nat.le_of_ble_eq_true rfl | omega)); (conv => whnf))
            | ((with_reducible refine @And.intro (@LT.lt Nat _ _ _) _ ?_ ?_); (· omega); (conv => whnf))
            | ((with_reducible refine @And.intro (∃ _, _ = _) _ ?_ ?_); (· exact ⟨_, rfl⟩); (conv => whnf))
            | ((with_reducible refine @And.intro (_ ∨ _) _ ?_ ?_); (· (first | exact Or.inl rfl | exact Or.inr rfl | exact t_b01 _ | assumption)); (conv => whnf))
            | ((with_reducible refine @And.intro (¬ (_ = _)) _ ?_ ?_); (· first | assumption | (with_reducible assumption)); (conv => whnf))
            | (refine hX _ _ _ _ _ _ ?_; (conv => whnf); fail_if_success show False)
            | (rw [c_si]; (conv => whnf))
            | (refine ⟨_, rfl, ?_⟩; (conv => whnf))
            | (refine ⟨_, _, rfl, ?_⟩; (conv => whnf))
            | (refine ⟨_, _, _, rfl, ?_⟩; (conv => whnf))
            | (refine ⟨_, _, _, _, rfl, ?_⟩; (conv => whnf))
            | (refine And.intro (fun c => ?_) (fun c => ?_) <;> (first | (exact absurd c (by decide +kernel)) | (conv => whnf)))
            | fail)
          clear hX hG hQ
          simp (disch := omega) only [xl_n, xl_m, nI_dec, nI_sb, xl_0, xl_1, cW_i, Nat.add_zero, Nat.reduceAdd, Nat.reduceMul, t_bn0, t_bn1, Classical.not_not, t_lt, nI_add, nI_1, pk_mul, nI_clamp, c_si, nI_eq, nI_leI, nM_ne, nM_ne, xm_set] at *
          exact this
        clear ih
        by_cases f1 : nI (j + 1) &&& ((left &&& (I 39 p ^^^ nM)) ^^^ nM) = nI 0
        · have g1 : nI (j + 1) &&& ((left &&& (I 39 p ^^^ nM)) ^^^ Int32.ofInt (-1)) = 0 := f1
          have b36 : I 36 (nI p).toNatClampNeg = I 36 p := by rw [nI_clamp (by omega)]
          by_cases f2 : t_ones (nI (j + 1)) = I 36 p
          · have g2 : t_ones (nI (j + 1)) = I 36 (nI p).toNatClampNeg := by rw [b36]; exact f2
            cases f3 : g_sil (cG P I L) (used ||| nI (j + 1)) with
            | true =>
              have fin := x142 (by rw [← ecan, eflt, f3, Bool.not_true, Bool.and_false]; rfl)
              have g3 : ¬ t_b (g_sil (cG P I L) (used ||| nI (j + 1))) = 0 := by
                rw [f3]
                decide +kernel
              clear x142
              refine hG _ _ _ _ _ _ ?_
              (conv => whnf)
              repeat' (first
                | ((with_reducible refine @And.intro (vp_in _ _) _ ?_ ?_); (· (first | with_reducible assumption | ((with_reducible refine t_vin ?_); decide) | ((with_reducible refine vp_in_nI ?_ ?_) <;> first | omega | decide) | (simp (disch := omega) only [xl_n, xl_m, nI_dec, nI_sb, nI_add, pk_mul]; (with_reducible refine vp_in_nI ?_ ?_) <;> first | omega | decide))); (conv => whnf))
                | (refine And.intro (by first | with_reducible assumption | exact (show cL _ _ = _ from rfl) | decide) ?_; (conv => whnf))
                | ((with_reducible refine @And.intro (_ = _) _ ?_ ?_); (· rfl); (conv => whnf))
                | ((with_reducible refine @And.intro (@LE.le Nat _ _ _) _ ?_ ?_); (· (first | exact Nat.zero_le _ | exact Nat.le_of_ble_eq_true rfl | omega)); (conv => whnf))
                | ((with_reducible refine @And.intro (@LT.lt Nat _ _ _) _ ?_ ?_); (· omega); (conv => whnf))
                | ((with_reducible refine @And.intro (∃ _, _ = _) _ ?_ ?_); (· exact ⟨_, rfl⟩); (conv => whnf))
                | ((with_reducible refine @And.intro (_ ∨ _) _ ?_ ?_); (· (first | exact Or.inl rfl | exact Or.inr rfl | exact t_b01 _ | assumption)); (conv => whnf))
                | ((with_reducible refine @And.intro (¬ (_ = _)) _ ?_ ?_); (· first | assumption | (with_reducible assumption)); (conv => whnf))
                | (refine hX _ _ _ _ _ _ ?_; (conv => whnf); fail_if_success show False)
                | (rw [c_si]; (conv => whnf))
                | (refine ⟨_, rfl, ?_⟩; (conv => whnf))
                | (refine ⟨_, _, rfl, ?_⟩; (conv => whnf))
                | (refine ⟨_, _, _, rfl, ?_⟩; (conv => whnf))
                | (refine ⟨_, _, _, _, rfl, ?_⟩; (conv => whnf))
                | (refine ⟨nI (j+1),rfl,m9,?_⟩; (conv => whnf))
                | (refine ⟨_,L,rfl,hok,?_⟩; (conv => whnf))
                | (refine And.intro (fun c => ?_) (fun c => ?_) <;> (first | (exact absurd c (by decide +kernel)) | (exact absurd c (by assumption)) | (exact False.elim (c (by assumption))) | (conv => whnf)))
                | fail)
              exact fin
            | false =>
              have cf : c_flt (cG P I L) left used p (nI (j + 1)) = true := by rw [eflt, f3, decide_eq_true f1, decide_eq_true f2]; rfl
              have can : g_can (cG P I L) al used p (nI (j + 1)) = true := by rw [← ecan]; exact cf
              have g3 : t_b (g_sil (cG P I L) (used ||| nI (j + 1))) = 0 := by
                rw [f3]
                decide +kernel
              rw [can, Bool.true_and] at x142
              refine hG _ _ _ _ _ _ ?_
              (conv => whnf)
              repeat' (first
                | ((with_reducible refine @And.intro (vp_in _ _) _ ?_ ?_); (· (first | with_reducible assumption | ((with_reducible refine t_vin ?_); decide) | ((with_reducible refine vp_in_nI ?_ ?_) <;> first | omega | decide) | (simp (disch := omega) only [xl_n, xl_m, nI_dec, nI_sb, nI_add, pk_mul]; (with_reducible refine vp_in_nI ?_ ?_) <;> first | omega | decide))); (conv => whnf))
                | (refine And.intro (by first | with_reducible assumption | exact (show cL _ _ = _ from rfl) | decide) ?_; (conv => whnf))
                | ((with_reducible refine @And.intro (_ = _) _ ?_ ?_); (· rfl); (conv => whnf))
                | ((with_reducible refine @And.intro (@LE.le Nat _ _ _) _ ?_ ?_); (· (first | exact Nat.zero_le _ | exact Nat.le_of_ble_eq_true rfl | omega)); (conv => whnf))
                | ((with_reducible refine @And.intro (@LT.lt Nat _ _ _) _ ?_ ?_); (· omega); (conv => whnf))
                | ((with_reducible refine @And.intro (∃ _, _ = _) _ ?_ ?_); (· exact ⟨_, rfl⟩); (conv => whnf))
                | ((with_reducible refine @And.intro (_ ∨ _) _ ?_ ?_); (· (first | exact Or.inl rfl | exact Or.inr rfl | exact t_b01 _ | assumption)); (conv => whnf))
                | ((with_reducible refine @And.intro (¬ (_ = _)) _ ?_ ?_); (· first | assumption | (with_reducible assumption)); (conv => whnf))
                | (refine hX _ _ _ _ _ _ ?_; (conv => whnf); fail_if_success show False)
                | (rw [c_si]; (conv => whnf))
                | (refine ⟨_, rfl, ?_⟩; (conv => whnf))
                | (refine ⟨_, _, rfl, ?_⟩; (conv => whnf))
                | (refine ⟨_, _, _, rfl, ?_⟩; (conv => whnf))
                | (refine ⟨_, _, _, _, rfl, ?_⟩; (conv => whnf))
                | (refine ⟨nI (j+1),rfl,m9,?_⟩; (conv => whnf))
                | (refine ⟨_,L,rfl,hok,?_⟩; (conv => whnf))
                | (refine And.intro (fun c => ?_) (fun c => ?_) <;> (first | (exact absurd c (by decide +kernel)) | (exact absurd c (by assumption)) | (exact False.elim (c (by assumption))) | (conv => whnf)))
                | fail)
              refine ⟨a, b, k + 1, L, T, al, left &&& (nI (j + 1) ^^^ nM), used ||| nI (j + 1), r, ?_, hg, hk0, ha, hb, ?_, ?_, ?_, hlu.nx cf, ?_⟩
              · show [_, _, _, Value.int (nI k + Int32.ofInt 1), Value.int (left &&& (nI (j + 1) ^^^ Int32.ofInt (-1))), _] = _
                rw [xl_n.2.1, nI_add, xl_m]
              · rw [ema, emb, ← hlen]
                omega
              · simp at hd
                exact hd
              · intro i p' l' hi
                rw [show k + 1 + i = k + (i + 1) by omega]
                exact hrest (i + 1) p' l' hi
              · cases q : (g_cs (cG P I L) T al r (used ||| nI (j + 1))).any fun _ => true with
                | true =>
                  have e : g_pany (cG P I L) T al used p r (fun _ => true) 511 = true := g_pany_t (k := j + 1) (by rw [g_pany_s, can, q]; simp) (by omega)
                  rw [e] at hQ
                  have d2 : ¬ t_b true = 0 := by decide +kernel
                  clear x142
                  (conv => whnf)
                  refine And.intro (fun c => absurd c d2) (fun _ => ?_)
                  (conv => whnf)
                  repeat' (first
                    | ((with_reducible refine @And.intro (vp_in _ _) _ ?_ ?_); (· (first | with_reducible assumption | ((with_reducible refine t_vin ?_); decide) | ((with_reducible refine vp_in_nI ?_ ?_) <;> first | omega | decide) | (simp (disch := omega) only [xl_n, xl_m, nI_dec, nI_sb, nI_add, pk_mul]; (with_reducible refine vp_in_nI ?_ ?_) <;> first | omega | decide))); (conv => whnf))
                    | (refine And.intro (by first | with_reducible assumption | exact (show cL _ _ = _ from rfl) | decide) ?_; (conv => whnf))
                    | ((with_reducible refine @And.intro (_ = _) _ ?_ ?_); (· rfl); (conv => whnf))
                    | ((with_reducible refine @And.intro (@LE.le Nat _ _ _) _ ?_ ?_); (· (first | exact Nat.zero_le _ | exact Nat.le_of_ble_eq_true rfl | omega)); (conv => whnf))
                    | ((with_reducible refine @And.intro (@LT.lt Nat _ _ _) _ ?_ ?_); (· omega); (conv => whnf))
                    | ((with_reducible refine @And.intro (∃ _, _ = _) _ ?_ ?_); (· exact ⟨_, rfl⟩); (conv => whnf))
                    | ((with_reducible refine @And.intro (_ ∨ _) _ ?_ ?_); (· (first | exact Or.inl rfl | exact Or.inr rfl | exact t_b01 _ | assumption)); (conv => whnf))
                    | ((with_reducible refine @And.intro (¬ (_ = _)) _ ?_ ?_); (· first | assumption | (with_reducible assumption)); (conv => whnf))
                    | (refine hX _ _ _ _ _ _ ?_; (conv => whnf); fail_if_success show False)
                    | (rw [c_si]; (conv => whnf))
                    | (refine ⟨_, rfl, ?_⟩; (conv => whnf))
                    | (refine ⟨_, _, rfl, ?_⟩; (conv => whnf))
                    | (refine ⟨_, _, _, rfl, ?_⟩; (conv => whnf))
                    | (refine ⟨_, _, _, _, rfl, ?_⟩; (conv => whnf))
                    | (refine And.intro (fun c => ?_) (fun c => ?_) <;> (first | (exact absurd c (by decide +kernel)) | (conv => whnf)))
                    | fail)
                  exact hQ
                | false =>
                  have fin := x142 q
                  have d2 : t_b false = 0 := rfl
                  clear x142
                  (conv => whnf)
                  refine And.intro (fun _ => ?_) (fun c => absurd d2 c)
                  (conv => whnf)
                  repeat' (first
                    | ((with_reducible refine @And.intro (vp_in _ _) _ ?_ ?_); (· (first | with_reducible assumption | ((with_reducible refine t_vin ?_); decide) | ((with_reducible refine vp_in_nI ?_ ?_) <;> first | omega | decide) | (simp (disch := omega) only [xl_n, xl_m, nI_dec, nI_sb, nI_add, pk_mul]; (with_reducible refine vp_in_nI ?_ ?_) <;> first | omega | decide))); (conv => whnf))
                    | (refine And.intro (by first | with_reducible assumption | exact (show cL _ _ = _ from rfl) | decide) ?_; (conv => whnf))
                    | ((with_reducible refine @And.intro (_ = _) _ ?_ ?_); (· rfl); (conv => whnf))
                    | ((with_reducible refine @And.intro (@LE.le Nat _ _ _) _ ?_ ?_); (· (first | exact Nat.zero_le _ | exact Nat.le_of_ble_eq_true rfl | omega)); (conv => whnf))
                    | ((with_reducible refine @And.intro (@LT.lt Nat _ _ _) _ ?_ ?_); (· omega); (conv => whnf))
                    | ((with_reducible refine @And.intro (∃ _, _ = _) _ ?_ ?_); (· exact ⟨_, rfl⟩); (conv => whnf))
                    | ((with_reducible refine @And.intro (_ ∨ _) _ ?_ ?_); (· (first | exact Or.inl rfl | exact Or.inr rfl | exact t_b01 _ | assumption)); (conv => whnf))
                    | ((with_reducible refine @And.intro (¬ (_ = _)) _ ?_ ?_); (· first | assumption | (with_reducible assumption)); (conv => whnf))
                    | (refine hX _ _ _ _ _ _ ?_; (conv => whnf); fail_if_success show False)
                    | (rw [c_si]; (conv => whnf))
                    | (refine ⟨_, rfl, ?_⟩; (conv => whnf))
                    | (refine ⟨_, _, rfl, ?_⟩; (conv => whnf))
                    | (refine ⟨_, _, _, rfl, ?_⟩; (conv => whnf))
                    | (refine ⟨_, _, _, _, rfl, ?_⟩; (conv => whnf))
                    | (refine And.intro (fun c => ?_) (fun c => ?_) <;> (first | (exact absurd c (by decide +kernel)) | (conv => whnf)))
                    | fail)
                  exact fin
          · have g2 : ¬ t_ones (nI (j + 1)) = I 36 (nI p).toNatClampNeg := by rw [b36]; exact f2
            have fin := x142 (by rw [← ecan, eflt, decide_eq_false f2, Bool.and_false]; rfl)
            clear x142
            refine hG _ _ _ _ _ _ ?_
            (conv => whnf)
            repeat' (first
              | ((with_reducible refine @And.intro (vp_in _ _) _ ?_ ?_); (· (first | with_reducible assumption | ((with_reducible refine t_vin ?_); decide) | ((with_reducible refine vp_in_nI ?_ ?_) <;> first | omega | decide) | (simp (disch := omega) only [xl_n, xl_m, nI_dec, nI_sb, nI_add, pk_mul]; (with_reducible refine vp_in_nI ?_ ?_) <;> first | omega | decide))); (conv => whnf))
              | (refine And.intro (by first | with_reducible assumption | exact (show cL _ _ = _ from rfl) | decide) ?_; (conv => whnf))
              | ((with_reducible refine @And.intro (_ = _) _ ?_ ?_); (· rfl); (conv => whnf))
              | ((with_reducible refine @And.intro (@LE.le Nat _ _ _) _ ?_ ?_); (· (first | exact Nat.zero_le _ | exact Nat.le_of_ble_eq_true rfl | omega)); (conv => whnf))
              | ((with_reducible refine @And.intro (@LT.lt Nat _ _ _) _ ?_ ?_); (· omega); (conv => whnf))
              | ((with_reducible refine @And.intro (∃ _, _ = _) _ ?_ ?_); (· exact ⟨_, rfl⟩); (conv => whnf))
              | ((with_reducible refine @And.intro (_ ∨ _) _ ?_ ?_); (· (first | exact Or.inl rfl | exact Or.inr rfl | exact t_b01 _ | assumption)); (conv => whnf))
              | ((with_reducible refine @And.intro (¬ (_ = _)) _ ?_ ?_); (· first | assumption | (with_reducible assumption)); (conv => whnf))
              | (refine hX _ _ _ _ _ _ ?_; (conv => whnf); fail_if_success show False)
              | (rw [c_si]; (conv => whnf))
              | (refine ⟨_, rfl, ?_⟩; (conv => whnf))
              | (refine ⟨_, _, rfl, ?_⟩; (conv => whnf))
              | (refine ⟨_, _, _, rfl, ?_⟩; (conv => whnf))
              | (refine ⟨_, _, _, _, rfl, ?_⟩; (conv => whnf))
              | (refine ⟨nI (j+1),rfl,m9,?_⟩; (conv => whnf))
              | (refine And.intro (fun c => ?_) (fun c => ?_) <;> (first | (exact absurd c (by decide +kernel)) | (exact absurd c (by assumption)) | (exact False.elim (c (by assumption))) | (conv => whnf)))
              | fail)
            exact fin
        · have g1 : ¬ nI (j + 1) &&& ((left &&& (I 39 p ^^^ nM)) ^^^ Int32.ofInt (-1)) = 0 := f1
          have fin := x142 (by rw [← ecan, eflt, decide_eq_false f1]; rfl)
          clear x142
          refine hG _ _ _ _ _ _ ?_
          (conv => whnf)
          repeat' (first
            | ((with_reducible refine @And.intro (vp_in _ _) _ ?_ ?_); (· (first | with_reducible assumption | ((with_reducible refine t_vin ?_); decide) | ((with_reducible refine vp_in_nI ?_ ?_) <;> first | omega | decide) | (simp (disch := omega) only [xl_n, xl_m, nI_dec, nI_sb, nI_add, pk_mul]; (with_reducible refine vp_in_nI ?_ ?_) <;> first | omega | decide))); (conv => whnf))
            | (refine And.intro (by first | with_reducible assumption | exact (show cL _ _ = _ from rfl) | decide) ?_; (conv => whnf))
            | ((with_reducible refine @And.intro (_ = _) _ ?_ ?_); (· rfl); (conv => whnf))
            | ((with_reducible refine @And.intro (@LE.le Nat _ _ _) _ ?_ ?_); (· (first | exact Nat.zero_le _ | exact Nat.le_of_ble_eq_true rfl | omega)); (conv => whnf))
            | ((with_reducible refine @And.intro (@LT.lt Nat _ _ _) _ ?_ ?_); (· omega); (conv => whnf))
            | ((with_reducible refine @And.intro (∃ _, _ = _) _ ?_ ?_); (· exact ⟨_, rfl⟩); (conv => whnf))
            | ((with_reducible refine @And.intro (_ ∨ _) _ ?_ ?_); (· (first | exact Or.inl rfl | exact Or.inr rfl | exact t_b01 _ | assumption)); (conv => whnf))
            | ((with_reducible refine @And.intro (¬ (_ = _)) _ ?_ ?_); (· first | assumption | (with_reducible assumption)); (conv => whnf))
            | (refine hX _ _ _ _ _ _ ?_; (conv => whnf); fail_if_success show False)
            | (rw [c_si]; (conv => whnf))
            | (refine ⟨_, rfl, ?_⟩; (conv => whnf))
            | (refine ⟨_, _, rfl, ?_⟩; (conv => whnf))
            | (refine ⟨_, _, _, rfl, ?_⟩; (conv => whnf))
            | (refine ⟨_, _, _, _, rfl, ?_⟩; (conv => whnf))
            | (refine And.intro (fun c => ?_) (fun c => ?_) <;> (first | (exact absurd c (by decide +kernel)) | (exact absurd c (by assumption)) | (exact False.elim (c (by assumption))) | (conv => whnf)))
            | fail)
          exact fin
    have x := l2 0 (Nat.zero_le _) rfl
    clear l2
    by_cases q : k < gmany (cG P I L) a
    · have d2 : ¬ I (80 + a) 2 ≤ nI k := by
        rw [a2, nI_leI (by omega) (by omega)]
        omega
      have e90 : xm_fld (cW P Z I) (90 + a) (nI k).toNatClampNeg 0 = .int (nI p) := by
        show Value.int (I (90 + a) (nI k).toNatClampNeg) = _
        rw [nI_clamp (by omega), (c_pup hg ha q).2, ep]
        unfold c_two
        rw [if_pos q]
      have e90b : (cW P Z I).2.1 (90 + a) (nI k).toNatClampNeg = nI p := Value.int.inj e90
      repeat' (first
        | ((with_reducible refine @And.intro (vp_in _ _) _ ?_ ?_); (· (first | with_reducible assumption | ((with_reducible refine t_vin ?_); decide) | ((with_reducible refine vp_in_nI ?_ ?_) <;> first | omega | decide) | (simp (disch := omega) only [xl_n, xl_m, nI_dec, nI_sb, nI_add, pk_mul]; (with_reducible refine vp_in_nI ?_ ?_) <;> first | omega | decide))); (conv => whnf))
        | (refine And.intro (by first | with_reducible assumption | exact (show cL _ _ = _ from rfl) | decide) ?_; (conv => whnf))
        | ((with_reducible refine @And.intro (_ = _) _ ?_ ?_); (· rfl); (conv => whnf))
        | ((with_reducible refine @And.intro (@LE.le Nat _ _ _) _ ?_ ?_); (· (first | exact Nat.zero_le _ | exact Nat.le_of_ble_eq_true rfl | omega)); (conv => whnf))
        | ((with_reducible refine @And.intro (@LT.lt Nat _ _ _) _ ?_ ?_); (· omega); (conv => whnf))
        | ((with_reducible refine @And.intro (∃ _, _ = _) _ ?_ ?_); (· exact ⟨_, rfl⟩); (conv => whnf))
        | ((with_reducible refine @And.intro (_ ∨ _) _ ?_ ?_); (· (first | exact Or.inl rfl | exact Or.inr rfl | exact t_b01 _ | assumption)); (conv => whnf))
        | ((with_reducible refine @And.intro (¬ (_ = _)) _ ?_ ?_); (· first | assumption | (with_reducible assumption)); (conv => whnf))
        | (refine hX _ _ _ _ _ _ ?_; (conv => whnf); fail_if_success show False)
        | (rw [c_si]; (conv => whnf))
        | (refine ⟨_, rfl, ?_⟩; (conv => whnf))
        | (refine ⟨_, _, rfl, ?_⟩; (conv => whnf))
        | (refine ⟨_, _, _, rfl, ?_⟩; (conv => whnf))
        | (refine ⟨_, _, _, _, rfl, ?_⟩; (conv => whnf))
        | (rw [c_ac ha h6]; (conv => whnf))
        | (rw [c_ac hb h6]; (conv => whnf))
        | (rw [c_af ha h6]; (conv => whnf))
        | (rw [c_av ha h6]; (conv => whnf))
        | (rw [e90]; (conv => whnf))
        | (rw [e90b]; (conv => whnf))
        | (refine And.intro (fun c => ?_) (fun c => ?_) <;> (first | (exact absurd c (by decide +kernel)) | (exact absurd c (by assumption)) | (exact False.elim (c (by assumption))) | (conv => whnf)))
        | fail)
      clear hX hG hQ
      simp (disch := omega) only [xl_n, xl_m, nI_dec, nI_sb, xl_0, xl_1, cW_i, Nat.add_zero, Nat.reduceAdd, Nat.reduceMul, t_bn0, t_bn1, Classical.not_not, t_lt, nI_add, nI_1, pk_mul, nI_clamp, c_si, nI_eq, nI_leI, nM_ne, nM_ne, xm_set, xm_lv0, xm_psh] at *
      exact x
    · have d2 : I (80 + a) 2 ≤ nI k := by
        rw [a2, nI_leI (by omega) (by omega)]
        omega
      have ei : nI k - I (80 + a) 2 = nI (k - c_am P I a) := by
        rw [a2, nI_sub (by omega)]
      have e90 : xm_fld (cW P Z I) (90 + b) (nI k - (cW P Z I).2.1 (80 + a) 2).toNatClampNeg 0 = .int (nI p) := by
        show Value.int (I (90 + b) (nI k - I (80 + a) 2).toNatClampNeg) = _
        rw [ei, nI_clamp (by omega), (c_pup hg hb (show k - c_am P I a < gmany (cG P I L) b by omega)).2, ep]
        unfold c_two
        rw [if_neg q]
        rfl
      have e90b : (cW P Z I).2.1 (90 + b) (nI k - (cW P Z I).2.1 (80 + a) 2).toNatClampNeg = nI p := Value.int.inj e90
      have ev : vp_in (nI k - (cW P Z I).2.1 (80 + a) 2) 6 := by
        show vp_in (nI k - I (80 + a) 2) 6
        rw [ei]
        exact vp_in_nI (by omega) (by decide)
      repeat' (first
        | ((with_reducible refine @And.intro (vp_in _ _) _ ?_ ?_); (· (first | with_reducible assumption | ((with_reducible refine t_vin ?_); decide) | ((with_reducible refine vp_in_nI ?_ ?_) <;> first | omega | decide) | (simp (disch := omega) only [xl_n, xl_m, nI_dec, nI_sb, nI_add, pk_mul]; (with_reducible refine vp_in_nI ?_ ?_) <;> first | omega | decide))); (conv => whnf))
        | (refine And.intro (by first | with_reducible assumption | exact (show cL _ _ = _ from rfl) | decide) ?_; (conv => whnf))
        | ((with_reducible refine @And.intro (_ = _) _ ?_ ?_); (· rfl); (conv => whnf))
        | ((with_reducible refine @And.intro (@LE.le Nat _ _ _) _ ?_ ?_); (· (first | exact Nat.zero_le _ | exact Nat.le_of_ble_eq_true rfl | omega)); (conv => whnf))
        | ((with_reducible refine @And.intro (@LT.lt Nat _ _ _) _ ?_ ?_); (· omega); (conv => whnf))
        | ((with_reducible refine @And.intro (∃ _, _ = _) _ ?_ ?_); (· exact ⟨_, rfl⟩); (conv => whnf))
        | ((with_reducible refine @And.intro (_ ∨ _) _ ?_ ?_); (· (first | exact Or.inl rfl | exact Or.inr rfl | exact t_b01 _ | assumption)); (conv => whnf))
        | ((with_reducible refine @And.intro (¬ (_ = _)) _ ?_ ?_); (· first | assumption | (with_reducible assumption)); (conv => whnf))
        | (refine hX _ _ _ _ _ _ ?_; (conv => whnf); fail_if_success show False)
        | (rw [c_si]; (conv => whnf))
        | (refine ⟨_, rfl, ?_⟩; (conv => whnf))
        | (refine ⟨_, _, rfl, ?_⟩; (conv => whnf))
        | (refine ⟨_, _, _, rfl, ?_⟩; (conv => whnf))
        | (refine ⟨_, _, _, _, rfl, ?_⟩; (conv => whnf))
        | (refine ⟨ev,?_⟩; (conv => whnf))
        | (rw [c_ac ha h6]; (conv => whnf))
        | (rw [c_ac hb h6]; (conv => whnf))
        | (rw [c_af hb h6]; (conv => whnf))
        | (rw [c_av hb h6]; (conv => whnf))
        | (rw [e90]; (conv => whnf))
        | (rw [e90b]; (conv => whnf))
        | (refine And.intro (fun c => ?_) (fun c => ?_) <;> (first | (exact absurd c (by decide +kernel)) | (exact absurd c (by assumption)) | (exact False.elim (c (by assumption))) | (conv => whnf)))
        | fail)
      clear hX hG hQ
      simp (disch := omega) only [xl_n, xl_m, nI_dec, nI_sb, xl_0, xl_1, cW_i, Nat.add_zero, Nat.reduceAdd, Nat.reduceMul, t_bn0, t_bn1, Classical.not_not, t_lt, nI_add, nI_1, pk_mul, nI_clamp, c_si, nI_eq, nI_leI, nM_ne, nM_ne, xm_set, xm_lv0, xm_psh] at *
      exact x
theorem ct_X1_bothOn : ∀ d, xm_Ct cI yX1_bothOn (ws_ yX1_bothOn cX1_bothOn 9 (some .boolean)) (d + 9) 0 0 (S_X1_bothOn d)
  | 0 => xm_ct0
  | d + 1 => xm_enter (rt := 1) (init := false) (by decide +kernel) rfl (fun h => by cases h) (Or.inr (Or.inl ⟨rfl, Or.inl rfl⟩)) (oX1_bothOn d (ct_X1_bothOn d)) (body_X1_bothOn d)
theorem cv_X1_bothOn {own : String} {cc : ByteArray} {fr pc idx : Nat} (hdg : decode cc pc = .ok (.invokevirtual idx, 3)) (hl : xm_ml own idx yX1_bothOn) (hfr : 22 < fr) : xm_CallOK cI own cc fr pc (pc + 3) 6 0 0 (xm_this 0 (S_X1_bothOn 13)) := xm_callV 0 cI_good (ct_X1_bothOn 13) hdg hl q1868 qs46 q116 q1869 rfl rfl (by decide +kernel) hfr (by decide)
/-- whether a hand works the puppet and no other of them -/
def g_okl (h q : Nat) : gP → List Int32 → Bool
  | (p, _) :: r, s :: c => decide (decide (p = q) = t_has s h) && g_okl h q r c
  | _, _ => true
def S_X1_isIn (d : Nat) : xS := match d with
  | 0 => fun _ _ _ _ => False
  | d + 1 => cU fun as P Z I Q QX => ∃ (a k h q : Nat) (L : List lC) (T : gT) (al left used : Int32) (rest : gP), as = [.ref 0, .ref (80 + a), .int (nI k), .int left, .int used, .int (nI h), .int (nI q)] ∧ c_good P Z I L ∧ g_ok (cG P I L) ∧ a < P.1 ∧ h < 9 ∧ q < 8 ∧ k + rest.length = gmany (cG P I L) a ∧ rest.length ≤ d ∧ (∀ i p l, rest[i]? = some (p, l) → p = gpup (cG P I L) a (k + i) ∧ l ≤ gs T p) ∧ c_lu (cG P I L) al left used ∧ Q (some (.int (t_b ((g_cs (cG P I L) T al rest used).any (g_okl h q rest))))) I
abbrev bX1_isIn_0 : List xE := [(.iload_n 2, 1, 0, 0, 0), (.aload_n 1, 2, 0, 0, 0), (.getfield 328, 5, 11, 2, 0), (.if_icmp .ne 5, 8, 0, 10, 0), (.iconst 1, 9, 0, 0, 0), (.ireturn, 10, 0, 0, 0)]
abbrev bX1_isIn_10 : List xE := [(.aload_n 1, 11, 0, 0, 0), (.getfield 331, 14, 11, 1, 1), (.iload_n 2, 15, 0, 0, 0), (.iaload, 16, 0, 0, 0), (.istore 7, 18, 0, 0, 0), (.iload_n 3, 19, 0, 0, 0), (.aload_n 0, 20, 0, 0, 0), (.getfield 31, 23, 0, 0, 1), (.getfield 334, 26, 1, 9, 1), (.iload 7, 28, 0, 0, 0), (.iaload, 29, 0, 0, 0), (.iconst (-1), 30, 0, 0, 0), (.ixor, 31, 0, 0, 0), (.iand, 32, 0, 0, 0), (.istore 8, 34, 0, 0, 0), (.iconst 1, 35, 0, 0, 0), (.istore 9, 37, 0, 0, 0)]
abbrev bX1_isIn_37 : List xE := [(.iload 9, 39, 0, 0, 0), (.sipush 512, 42, 0, 0, 0), (.if_icmp .ge 114, 45, 0, 156, 0), (.iload 9, 47, 0, 0, 0), (.iload 8, 49, 0, 0, 0), (.iconst (-1), 50, 0, 0, 0), (.ixor, 51, 0, 0, 0), (.iand, 52, 0, 0, 0), (.ifCond .ne 98, 55, 0, 150, 0), (.iload 9, 57, 0, 0, 0), (.invokestatic 207, 60, 0, 0, 9), (.aload_n 0, 61, 0, 0, 0), (.getfield 31, 64, 0, 0, 1), (.getfield 244, 67, 1, 6, 1), (.iload 7, 69, 0, 0, 0), (.iaload, 70, 0, 0, 0), (.if_icmp .ne 80, 73, 0, 150, 0), (.aload_n 0, 74, 0, 0, 0), (.iload 4, 76, 0, 0, 0), (.iload 9, 78, 0, 0, 0), (.ior, 79, 0, 0, 0), (.invokevirtual 337, 82, 0, 1, 9), (.ifCond .eq 6, 85, 0, 88, 0), (.goto 65, 88, 0, 150, 0)]
abbrev bX1_isIn_88 : List xE := [(.iload 7, 90, 0, 0, 0), (.iload 6, 92, 0, 0, 0), (.if_icmp .ne 7, 95, 0, 99, 0), (.iconst 1, 96, 0, 0, 0), (.goto 4, 99, 0, 100, 0)]
abbrev bX1_isIn_99 : List xE := [(.iconst 0, 100, 0, 0, 0)]
abbrev bX1_isIn_100 : List xE := [(.iload 9, 102, 0, 0, 0), (.iload 5, 104, 0, 0, 0), (.ishr, 105, 0, 0, 0), (.iconst 1, 106, 0, 0, 0), (.iand, 107, 0, 0, 0), (.iconst 1, 108, 0, 0, 0), (.if_icmp .ne 7, 111, 0, 115, 0), (.iconst 1, 112, 0, 0, 0), (.goto 4, 115, 0, 116, 0)]
abbrev bX1_isIn_115 : List xE := [(.iconst 0, 116, 0, 0, 0)]
abbrev bX1_isIn_116 : List xE := [(.if_icmp .eq 6, 119, 0, 122, 0), (.goto 31, 122, 0, 150, 0)]
abbrev bX1_isIn_122 : List xE := [(.aload_n 0, 123, 0, 0, 0), (.aload_n 1, 124, 0, 0, 0), (.iload_n 2, 125, 0, 0, 0), (.iconst 1, 126, 0, 0, 0), (.iadd, 127, 0, 0, 0), (.iload_n 3, 128, 0, 0, 0), (.iload 9, 130, 0, 0, 0), (.iconst (-1), 131, 0, 0, 0), (.ixor, 132, 0, 0, 0), (.iand, 133, 0, 0, 0), (.iload 4, 135, 0, 0, 0), (.iload 9, 137, 0, 0, 0), (.ior, 138, 0, 0, 0), (.iload 5, 140, 0, 0, 0), (.iload 6, 142, 0, 0, 0), (.invokevirtual 388, 145, 0, 2, 9), (.ifCond .eq 5, 148, 0, 150, 0), (.iconst 1, 149, 0, 0, 0), (.ireturn, 150, 0, 0, 0)]
abbrev bX1_isIn_150 : List xE := [(.iinc 9 1, 153, 0, 0, 0), (.goto (-116), 156, 0, 37, 0)]
abbrev bX1_isIn_156 : List xE := [(.iconst 0, 157, 0, 0, 0), (.ireturn, 158, 0, 0, 0)]
abbrev kX1_isIn : List (Nat × List xE) := [(0, bX1_isIn_0), (10, bX1_isIn_10), (37, bX1_isIn_37), (88, bX1_isIn_88), (99, bX1_isIn_99), (100, bX1_isIn_100), (115, bX1_isIn_115), (116, bX1_isIn_116), (122, bX1_isIn_122), (150, bX1_isIn_150), (156, bX1_isIn_156)]
abbrev lX1_isIn (d : Nat) : List (Nat × Nat × Nat × xS) := [(1, 0, 0, S_J16_bitCount), (2, 0, 0, xm_this 0 S_X1_isSilent), (7, 0, 0, (xm_this 0 (S_X1_isIn d)))]
theorem oX1_isIn_0 (d : Nat)  (ih_X1_isIn : xm_Ct cI yX1_isIn (ws_ yX1_isIn cX1_isIn 10 (some .boolean)) (d + 9) 0 0 (S_X1_isIn d)): xm_okb cI RX1 cX1_isIn false (d + 10) (lX1_isIn d) bX1_isIn_0 0 := xo_0 dX1_isIn_0 rfl trivial (xo_0 dX1_isIn_1 rfl trivial (xo_0 dX1_isIn_2 rfl (xm_fg_of (Or.inr ⟨_, q1307⟩) (by decide) rfl (by decide) rfl rfl (Or.inl rfl) rfl) (xo_0 dX1_isIn_5 rfl rfl (xo_0 dX1_isIn_8 rfl trivial (xo_0 dX1_isIn_9 rfl trivial (xo_n))))))
theorem oX1_isIn_10 (d : Nat)  (ih_X1_isIn : xm_Ct cI yX1_isIn (ws_ yX1_isIn cX1_isIn 10 (some .boolean)) (d + 9) 0 0 (S_X1_isIn d)): xm_okb cI RX1 cX1_isIn false (d + 10) (lX1_isIn d) bX1_isIn_10 10 := xo_0 dX1_isIn_10 rfl trivial (xo_1 dX1_isIn_11 rfl (xm_fg_of (Or.inr ⟨_, q1304⟩) (by decide) rfl (by decide) rfl rfl (Or.inl rfl) rfl) (xo_0 dX1_isIn_14 rfl trivial (xo_0 dX1_isIn_15 rfl trivial (xo_0 dX1_isIn_16 rfl trivial (xo_0 dX1_isIn_18 rfl trivial (xo_0 dX1_isIn_19 rfl trivial (xo_1 dX1_isIn_20 rfl (xm_fg_of (Or.inl q716) (by decide) rfl (by decide) rfl rfl (Or.inl rfl) rfl) (xo_1 dX1_isIn_23 rfl (xm_fg_of (Or.inr ⟨_, q549⟩) (by decide) rfl (by decide) rfl rfl (Or.inl rfl) rfl) (xo_0 dX1_isIn_26 rfl trivial (xo_0 dX1_isIn_28 rfl trivial (xo_0 dX1_isIn_29 rfl trivial (xo_0 dX1_isIn_30 rfl trivial (xo_0 dX1_isIn_31 rfl trivial (xo_0 dX1_isIn_32 rfl trivial (xo_0 dX1_isIn_34 rfl trivial (xo_0 dX1_isIn_35 rfl trivial (xo_n)))))))))))))))))
theorem oX1_isIn_37 (d : Nat)  (ih_X1_isIn : xm_Ct cI yX1_isIn (ws_ yX1_isIn cX1_isIn 10 (some .boolean)) (d + 9) 0 0 (S_X1_isIn d)): xm_okb cI RX1 cX1_isIn false (d + 10) (lX1_isIn d) bX1_isIn_37 37 := xo_0 dX1_isIn_37 rfl trivial (xo_0 dX1_isIn_39 rfl (xo_sipush (by decide +kernel)) (xo_0 dX1_isIn_42 rfl rfl (xo_0 dX1_isIn_45 rfl trivial (xo_0 dX1_isIn_47 rfl trivial (xo_0 dX1_isIn_49 rfl trivial (xo_0 dX1_isIn_50 rfl trivial (xo_0 dX1_isIn_51 rfl trivial (xo_0 dX1_isIn_52 rfl rfl (xo_0 dX1_isIn_55 rfl trivial (xo_c rfl (cv_J16_bitCount dX1_isIn_57 (Or.inl q846) (by omega)) (xo_0 dX1_isIn_60 rfl trivial (xo_1 dX1_isIn_61 rfl (xm_fg_of (Or.inl q716) (by decide) rfl (by decide) rfl rfl (Or.inl rfl) rfl) (xo_1 dX1_isIn_64 rfl (xm_fg_of (Or.inr ⟨_, q539⟩) (by decide) rfl (by decide) rfl rfl (Or.inl rfl) rfl) (xo_0 dX1_isIn_67 rfl trivial (xo_0 dX1_isIn_69 rfl trivial (xo_0 dX1_isIn_70 rfl rfl (xo_0 dX1_isIn_73 rfl trivial (xo_0 dX1_isIn_74 rfl trivial (xo_0 dX1_isIn_76 rfl trivial (xo_0 dX1_isIn_78 rfl trivial (xo_c rfl (cv_X1_isSilent dX1_isIn_79 (Or.inl q852) (by omega)) (xo_0 dX1_isIn_82 rfl rfl (xo_0 dX1_isIn_85 rfl rfl (xo_n))))))))))))))))))))))))
theorem oX1_isIn_88 (d : Nat)  (ih_X1_isIn : xm_Ct cI yX1_isIn (ws_ yX1_isIn cX1_isIn 10 (some .boolean)) (d + 9) 0 0 (S_X1_isIn d)): xm_okb cI RX1 cX1_isIn false (d + 10) (lX1_isIn d) bX1_isIn_88 88 := xo_0 dX1_isIn_88 rfl trivial (xo_0 dX1_isIn_90 rfl trivial (xo_0 dX1_isIn_92 rfl rfl (xo_0 dX1_isIn_95 rfl trivial (xo_0 dX1_isIn_96 rfl rfl (xo_n)))))
theorem oX1_isIn_99 (d : Nat)  (ih_X1_isIn : xm_Ct cI yX1_isIn (ws_ yX1_isIn cX1_isIn 10 (some .boolean)) (d + 9) 0 0 (S_X1_isIn d)): xm_okb cI RX1 cX1_isIn false (d + 10) (lX1_isIn d) bX1_isIn_99 99 := xo_0 dX1_isIn_99 rfl trivial (xo_n)
theorem oX1_isIn_100 (d : Nat)  (ih_X1_isIn : xm_Ct cI yX1_isIn (ws_ yX1_isIn cX1_isIn 10 (some .boolean)) (d + 9) 0 0 (S_X1_isIn d)): xm_okb cI RX1 cX1_isIn false (d + 10) (lX1_isIn d) bX1_isIn_100 100 := xo_0 dX1_isIn_100 rfl trivial (xo_0 dX1_isIn_102 rfl trivial (xo_0 dX1_isIn_104 rfl trivial (xo_0 dX1_isIn_105 rfl trivial (xo_0 dX1_isIn_106 rfl trivial (xo_0 dX1_isIn_107 rfl trivial (xo_0 dX1_isIn_108 rfl rfl (xo_0 dX1_isIn_111 rfl trivial (xo_0 dX1_isIn_112 rfl rfl (xo_n)))))))))
theorem oX1_isIn_115 (d : Nat)  (ih_X1_isIn : xm_Ct cI yX1_isIn (ws_ yX1_isIn cX1_isIn 10 (some .boolean)) (d + 9) 0 0 (S_X1_isIn d)): xm_okb cI RX1 cX1_isIn false (d + 10) (lX1_isIn d) bX1_isIn_115 115 := xo_0 dX1_isIn_115 rfl trivial (xo_n)
theorem oX1_isIn_116 (d : Nat)  (ih_X1_isIn : xm_Ct cI yX1_isIn (ws_ yX1_isIn cX1_isIn 10 (some .boolean)) (d + 9) 0 0 (S_X1_isIn d)): xm_okb cI RX1 cX1_isIn false (d + 10) (lX1_isIn d) bX1_isIn_116 116 := xo_0 dX1_isIn_116 rfl rfl (xo_0 dX1_isIn_119 rfl rfl (xo_n))
theorem oX1_isIn_122 (d : Nat)  (ih_X1_isIn : xm_Ct cI yX1_isIn (ws_ yX1_isIn cX1_isIn 10 (some .boolean)) (d + 9) 0 0 (S_X1_isIn d)): xm_okb cI RX1 cX1_isIn false (d + 10) (lX1_isIn d) bX1_isIn_122 122 := xo_0 dX1_isIn_122 rfl trivial (xo_0 dX1_isIn_123 rfl trivial (xo_0 dX1_isIn_124 rfl trivial (xo_0 dX1_isIn_125 rfl trivial (xo_0 dX1_isIn_126 rfl trivial (xo_0 dX1_isIn_127 rfl trivial (xo_0 dX1_isIn_128 rfl trivial (xo_0 dX1_isIn_130 rfl trivial (xo_0 dX1_isIn_131 rfl trivial (xo_0 dX1_isIn_132 rfl trivial (xo_0 dX1_isIn_133 rfl trivial (xo_0 dX1_isIn_135 rfl trivial (xo_0 dX1_isIn_137 rfl trivial (xo_0 dX1_isIn_138 rfl trivial (xo_0 dX1_isIn_140 rfl trivial (xo_c rfl (xm_callV 0 cI_good ih_X1_isIn dX1_isIn_142 (Or.inl q1891) q1893 qs47 q116 q1894 rfl rfl (by decide +kernel) (by omega) (by decide)) (xo_0 dX1_isIn_145 rfl rfl (xo_0 dX1_isIn_148 rfl trivial (xo_0 dX1_isIn_149 rfl trivial (xo_n)))))))))))))))))))
theorem oX1_isIn_150 (d : Nat)  (ih_X1_isIn : xm_Ct cI yX1_isIn (ws_ yX1_isIn cX1_isIn 10 (some .boolean)) (d + 9) 0 0 (S_X1_isIn d)): xm_okb cI RX1 cX1_isIn false (d + 10) (lX1_isIn d) bX1_isIn_150 150 := xo_0 dX1_isIn_150 rfl trivial (xo_0 dX1_isIn_153 rfl rfl (xo_n))
theorem oX1_isIn_156 (d : Nat)  (ih_X1_isIn : xm_Ct cI yX1_isIn (ws_ yX1_isIn cX1_isIn 10 (some .boolean)) (d + 9) 0 0 (S_X1_isIn d)): xm_okb cI RX1 cX1_isIn false (d + 10) (lX1_isIn d) bX1_isIn_156 156 := xo_0 dX1_isIn_156 rfl trivial (xo_0 dX1_isIn_157 rfl trivial (xo_n))
theorem oX1_isIn (d : Nat)  (ih_X1_isIn : xm_Ct cI yX1_isIn (ws_ yX1_isIn cX1_isIn 10 (some .boolean)) (d + 9) 0 0 (S_X1_isIn d)): ∀ q ∈ kX1_isIn, xm_okb cI RX1 cX1_isIn false (d + 10) (lX1_isIn d) q.2 q.1 := by
  intro q hq
  simp only [List.mem_cons, List.not_mem_nil, or_false] at hq
  rcases hq with rfl | rfl | rfl | rfl | rfl | rfl | rfl | rfl | rfl | rfl | rfl
  · exact oX1_isIn_0 d  ih_X1_isIn
  · exact oX1_isIn_10 d  ih_X1_isIn
  · exact oX1_isIn_37 d  ih_X1_isIn
  · exact oX1_isIn_88 d  ih_X1_isIn
  · exact oX1_isIn_99 d  ih_X1_isIn
  · exact oX1_isIn_100 d  ih_X1_isIn
  · exact oX1_isIn_115 d  ih_X1_isIn
  · exact oX1_isIn_116 d  ih_X1_isIn
  · exact oX1_isIn_122 d  ih_X1_isIn
  · exact oX1_isIn_150 d  ih_X1_isIn
  · exact oX1_isIn_156 d  ih_X1_isIn
theorem body_X1_isIn (d : Nat) : xm_Body 10 1 0 0 [] (lX1_isIn d) kX1_isIn (S_X1_isIn (d + 1)) := by
  intro X avs w Q QX hX0 hS
  have hG := xm_go [] hX0
  have hX := xm_go [37,150] hX0
  clear hX0
  obtain ⟨P, Z, I, rfl, a, k, h, q, L, T, al, left, used, rest, rfl, hg, hk0, ha, hh, hq8, hlen, hd, hrest, hlu, hQ⟩ := hS
  have hok := hg.ok
  obtain ⟨hn, h9, hm, h8⟩ := id hok
  have h6 := hg.ls.1
  obtain ⟨a2, a6, -, -⟩ := hg.2.2.2.1 a ha
  have ema : gmany (cG P I L) a = c_am P I a := rfl
  rw [ema] at hlen
  refine ⟨rfl, ?_⟩
  rcases rest with _ | ⟨⟨p, l⟩, r⟩
  · have dm : nI k = I (80 + a) 2 := by
      rw [a2, ← hlen]
      rfl
    repeat' (first
      | ((with_reducible refine @And.intro (vp_in _ _) _ ?_ ?_); (· (first | with_reducible assumption | ((with_reducible refine t_vin ?_); decide) | ((with_reducible refine vp_in_nI ?_ ?_) <;> first | omega | decide) | (simp (disch := omega) only [xl_n, xl_m, nI_dec, nI_sb, nI_add, pk_mul]; (with_reducible refine vp_in_nI ?_ ?_) <;> first | omega | decide))); (conv => whnf))
      | (refine And.intro (by first | with_reducible assumption | exact (show cL _ _ = _ from rfl) | decide) ?_; (conv => whnf))
      | ((with_reducible refine @And.intro (_ = _) _ ?_ ?_); (· rfl); (conv => whnf))
      | ((with_reducible refine @And.intro (@LE.le Nat _ _ _) _ ?_ ?_); (· (first | exact Nat.zero_le _ | exact Nat.le_of_ble_eq_true rfl | omega)); (conv => whnf))
      | ((with_reducible refine @And.intro (@LT.lt Nat _ _ _) _ ?_ ?_); (· omega); (conv => whnf))
      | ((with_reducible refine @And.intro (∃ _, _ = _) _ ?_ ?_); (· exact ⟨_, rfl⟩); (conv => whnf))
      | ((with_reducible refine @And.intro (_ ∨ _) _ ?_ ?_); (· (first | exact Or.inl rfl | exact Or.inr rfl | exact t_b01 _ | assumption)); (conv => whnf))
      | ((with_reducible refine @And.intro (¬ (_ = _)) _ ?_ ?_); (· first | assumption | (with_reducible assumption)); (conv => whnf))
      | (refine hX _ _ _ _ _ _ ?_; (conv => whnf); fail_if_success show False)
      | (rw [c_si]; (conv => whnf))
      | (refine ⟨_, rfl, ?_⟩; (conv => whnf))
      | (refine ⟨_, _, rfl, ?_⟩; (conv => whnf))
      | (refine ⟨_, _, _, rfl, ?_⟩; (conv => whnf))
      | (refine ⟨_, _, _, _, rfl, ?_⟩; (conv => whnf))
      | (rw [c_ac ha h6]; (conv => whnf))
      | (refine And.intro (fun c => ?_) (fun c => ?_) <;> (first | (exact absurd c (by decide +kernel)) | (exact absurd c (by assumption)) | (exact False.elim (c (by assumption))) | (conv => whnf)))
      | fail)
    exact hQ
  · obtain ⟨d', rfl⟩ : ∃ d', d = d' + 1 := ⟨d - 1, by simp at hd; omega⟩
    rw [List.length_cons] at hlen
    have dm : ¬ nI k = I (80 + a) 2 := by
      rw [a2, nI_eq (by omega) (by omega)]
      omega
    obtain ⟨ep, hstr⟩ := hrest 0 p l rfl
    rw [Nat.add_zero] at ep
    have hp : p < c_p I := by
      rw [ep]
      exact (c_pup hg ha (by omega)).1
    have equar : gquar (gGK (cG P I L)) p = I 39 p := cK_quar hp
    have eneed : gneeds (gGK (cG P I L)) p = I 36 p := cK_needs hp
    rw [g_cs_any (G := cG P I L) h9 hlu.2.2 hstr] at hQ
    have l2 : ∀ j, j ≤ 511 → g_pany (cG P I L) T al used p r (g_okl h q ((p, l) :: r)) j = false → X 37 [some (.ref 0), some (.ref (80 + a)), some (.int (nI k)), some (.int left), some (.int used), some (.int (nI h)), some (.int (nI q)), some (.int (nI p)), some (.int (left &&& (I 39 p ^^^ nM))), some (.int (nI (j + 1)))] [] (cW P Z I) 0 0 := by
      refine t_for fun j h1 ih hno => ?_
      by_cases hj : j = 511
      · subst hj
        have d1 : Int32.ofInt 512 ≤ nI (511 + 1) := by decide +kernel
        rw [hno] at hQ
        clear ih
        refine hG _ _ _ _ _ _ ?_
        (conv => whnf)
        repeat' (first
          | ((with_reducible refine @And.intro (vp_in _ _) _ ?_ ?_); (· (first | with_reducible assumption | ((with_reducible refine t_vin ?_); decide) | ((with_reducible refine vp_in_nI ?_ ?_) <;> first | omega | decide) | (simp (disch := omega) only [xl_n, xl_m, nI_dec, nI_sb, nI_add, pk_mul]; (with_reducible refine vp_in_nI ?_ ?_) <;> first | omega | decide))); (conv => whnf))
          | (refine And.intro (by first | with_reducible assumption | exact (show cL _ _ = _ from rfl) | decide) ?_; (conv => whnf))
          | ((with_reducible refine @And.intro (_ = _) _ ?_ ?_); (· rfl); (conv => whnf))
          | ((with_reducible refine @And.intro (@LE.le Nat _ _ _) _ ?_ ?_); (· (first | exact Nat.zero_le _ | exact Nat.le_of_ble_eq_true rfl | omega)); (conv => whnf))
          | ((with_reducible refine @And.intro (@LT.lt Nat _ _ _) _ ?_ ?_); (· omega); (conv => whnf))
          | ((with_reducible refine @And.intro (∃ _, _ = _) _ ?_ ?_); (· exact ⟨_, rfl⟩); (conv => whnf))
          | ((with_reducible refine @And.intro (_ ∨ _) _ ?_ ?_); (· (first | exact Or.inl rfl | exact Or.inr rfl | exact t_b01 _ | assumption)); (conv => whnf))
          | ((with_reducible refine @And.intro (¬ (_ = _)) _ ?_ ?_); (· first | assumption | (with_reducible assumption)); (conv => whnf))
          | (refine hX _ _ _ _ _ _ ?_; (conv => whnf); fail_if_success show False)
          | (rw [c_si]; (conv => whnf))
          | (refine ⟨_, rfl, ?_⟩; (conv => whnf))
          | (refine ⟨_, _, rfl, ?_⟩; (conv => whnf))
          | (refine ⟨_, _, _, rfl, ?_⟩; (conv => whnf))
          | (refine ⟨_, _, _, _, rfl, ?_⟩; (conv => whnf))
          | (refine And.intro (fun c => ?_) (fun c => ?_) <;> (first | (exact absurd c (by decide +kernel)) | (exact absurd c (by assumption)) | (exact False.elim (c (by assumption))) | (conv => whnf)))
          | fail)
        exact hQ
      · have d1 : ¬ Int32.ofInt 512 ≤ nI (j + 1) := by
          rw [show Int32.ofInt 512 = nI 512 by decide +kernel, nI_leI (by omega) (by omega)]
          omega
        have eflt : c_flt (cG P I L) left used p (nI (j + 1)) = (decide (nI (j + 1) &&& ((left &&& (I 39 p ^^^ nM)) ^^^ nM) = nI 0) && decide (t_ones (nI (j + 1)) = I 36 p) && !g_sil (cG P I L) (used ||| nI (j + 1))) := by
          unfold c_flt
          rw [equar, eneed]
        have ecan := c_flt_eq (p := p) (s := nI (j + 1)) hk0.2.1 h9 hlu
        have m9 := t_m9_s (k := j) (by omega)
        have x150 : (g_can (cG P I L) al used p (nI (j + 1)) && (g_cs (cG P I L) T al r (used ||| nI (j + 1))).any fun c => g_okl h q ((p, l) :: r) (nI (j + 1) :: c)) = false → X 150 [some (.ref 0), some (.ref (80 + a)), some (.int (nI k)), some (.int left), some (.int used), some (.int (nI h)), some (.int (nI q)), some (.int (nI p)), some (.int (left &&& (I 39 p ^^^ nM))), some (.int (nI (j + 1)))] [] (cW P Z I) 0 0 := fun e => by
          have := ih (j + 1) (by omega) (by omega) (by rw [g_pany_s, hno, e]; rfl)
          clear ih
          refine hG _ _ _ _ _ _ ?_
          (conv => whnf)
          repeat' (first
            | ((with_reducible refine @And.intro (vp_in _ _) _ ?_ ?_); (· (first | with_reducible assumption | ((with_reducible refine t_vin ?_); decide) | ((with_reducible refine vp_in_nI ?_ ?_) <;> first | omega | decide) | (simp (disch := omega) only [xl_n, xl_m, nI_dec, nI_sb, nI_add, pk_mul]; (with_reducible refine vp_in_nI ?_ ?_) <;> first | omega | decide))); (conv => whnf))
            | (refine And.intro (by first | with_reducible assumption | exact (show cL _ _ = _ from rfl) | decide) ?_; (conv => whnf))
            | ((with_reducible refine @And.intro (_ = _) _ ?_ ?_); (· rfl); (conv => whnf))
            | ((with_reducible refine @And.intro (@LE.le Nat _ _ _) _ ?_ ?_); (· (first | exact Nat.zero_le _ | exact Nat.le_of_ble_eq_true rfl | omega)); (conv => whnf))
            | ((with_reducible refine @And.intro (@LT.lt Nat _ _ _) _ ?_ ?_); (· omega); (conv => whnf))
            | ((with_reducible refine @And.intro (∃ _, _ = _) _ ?_ ?_); (· exact ⟨_, rfl⟩); (conv => whnf))
            | ((with_reducible refine @And.intro (_ ∨ _) _ ?_ ?_); (· (first | exact Or.inl rfl | exact Or.inr rfl | exact t_b01 _ | assumption)); (conv => whnf))
            | ((with_reducible refine @And.intro (¬ (_ = _)) _ ?_ ?_); (· first | assumption | (with_reducible assumption)); (conv => whnf))
            | (refine hX _ _ _ _ _ _ ?_; (conv => whnf); fail_if_success show False)
            | (rw [c_si]; (conv => whnf))
            | (refine ⟨_, rfl, ?_⟩; (conv => whnf))
            | (refine ⟨_, _, rfl, ?_⟩; (conv => whnf))
            | (refine ⟨_, _, _, rfl, ?_⟩; (conv => whnf))
            | (refine ⟨_, _, _, _, rfl, ?_⟩; (conv => whnf))
            | (refine And.intro (fun c => ?_) (fun c => ?_) <;> (first | (exact absurd c (by decide +kernel)) | (conv => whnf)))
            | fail)
          clear hX hG hQ
          simp (disch := omega) only [xl_n, xl_m, nI_dec, nI_sb, xl_0, xl_1, cW_i, Nat.add_zero, Nat.reduceAdd, Nat.reduceMul, t_bn0, t_bn1, Classical.not_not, t_lt, nI_add, nI_1, pk_mul, nI_clamp, c_si, nI_eq, nI_leI, nM_ne, nM_ne, xm_set] at *
          exact this
        clear ih
        by_cases f1 : nI (j + 1) &&& ((left &&& (I 39 p ^^^ nM)) ^^^ nM) = nI 0
        · have g1 : nI (j + 1) &&& ((left &&& (I 39 p ^^^ nM)) ^^^ Int32.ofInt (-1)) = 0 := f1
          have b36 : I 36 (nI p).toNatClampNeg = I 36 p := by rw [nI_clamp (by omega)]
          by_cases f2 : t_ones (nI (j + 1)) = I 36 p
          · have g2 : t_ones (nI (j + 1)) = I 36 (nI p).toNatClampNeg := by rw [b36]; exact f2
            cases f3 : g_sil (cG P I L) (used ||| nI (j + 1)) with
            | true =>
              have fin := x150 (by rw [← ecan, eflt, f3, Bool.not_true, Bool.and_false]; rfl)
              have g3 : ¬ t_b (g_sil (cG P I L) (used ||| nI (j + 1))) = 0 := by
                rw [f3]
                decide +kernel
              clear x150
              refine hG _ _ _ _ _ _ ?_
              (conv => whnf)
              repeat' (first
                | ((with_reducible refine @And.intro (vp_in _ _) _ ?_ ?_); (· (first | with_reducible assumption | ((with_reducible refine t_vin ?_); decide) | ((with_reducible refine vp_in_nI ?_ ?_) <;> first | omega | decide) | (simp (disch := omega) only [xl_n, xl_m, nI_dec, nI_sb, nI_add, pk_mul]; (with_reducible refine vp_in_nI ?_ ?_) <;> first | omega | decide))); (conv => whnf))
                | (refine And.intro (by first | with_reducible assumption | exact (show cL _ _ = _ from rfl) | decide) ?_; (conv => whnf))
                | ((with_reducible refine @And.intro (_ = _) _ ?_ ?_); (· rfl); (conv => whnf))
                | ((with_reducible refine @And.intro (@LE.le Nat _ _ _) _ ?_ ?_); (· (first | exact Nat.zero_le _ | exact Nat.le_of_ble_eq_true rfl | omega)); (conv => whnf))
                | ((with_reducible refine @And.intro (@LT.lt Nat _ _ _) _ ?_ ?_); (· omega); (conv => whnf))
                | ((with_reducible refine @And.intro (∃ _, _ = _) _ ?_ ?_); (· exact ⟨_, rfl⟩); (conv => whnf))
                | ((with_reducible refine @And.intro (_ ∨ _) _ ?_ ?_); (· (first | exact Or.inl rfl | exact Or.inr rfl | exact t_b01 _ | assumption)); (conv => whnf))
                | ((with_reducible refine @And.intro (¬ (_ = _)) _ ?_ ?_); (· first | assumption | (with_reducible assumption)); (conv => whnf))
                | (refine hX _ _ _ _ _ _ ?_; (conv => whnf); fail_if_success show False)
                | (rw [c_si]; (conv => whnf))
                | (refine ⟨_, rfl, ?_⟩; (conv => whnf))
                | (refine ⟨_, _, rfl, ?_⟩; (conv => whnf))
                | (refine ⟨_, _, _, rfl, ?_⟩; (conv => whnf))
                | (refine ⟨_, _, _, _, rfl, ?_⟩; (conv => whnf))
                | (refine ⟨nI (j+1),rfl,m9,?_⟩; (conv => whnf))
                | (refine ⟨_,L,rfl,hok,?_⟩; (conv => whnf))
                | (refine And.intro (fun c => ?_) (fun c => ?_) <;> (first | (exact absurd c (by decide +kernel)) | (exact absurd c (by assumption)) | (exact False.elim (c (by assumption))) | (conv => whnf)))
                | fail)
              exact fin
            | false =>
              have cf : c_flt (cG P I L) left used p (nI (j + 1)) = true := by rw [eflt, f3, decide_eq_true f1, decide_eq_true f2]; rfl
              have can : g_can (cG P I L) al used p (nI (j + 1)) = true := by rw [← ecan]; exact cf
              have g3 : t_b (g_sil (cG P I L) (used ||| nI (j + 1))) = 0 := by
                rw [f3]
                decide +kernel
              rw [can, Bool.true_and] at x150
              by_cases q1 : p = q <;> cases q2 : t_has (nI (j + 1)) h
              · have fin := x150 (by
                  have : (fun c => g_okl h q ((p, l) :: r) (nI (j + 1) :: c)) = fun _ => false := funext fun c => by
                    show (decide (decide (p = q) = t_has (nI (j + 1)) h) && _) = false
                    rw [q2, decide_eq_true q1]
                    rfl
                  rw [this]
                  simp)
                have g4 : nI p = nI q := by rw [q1]
                have g5 : ¬ (nI (j + 1) >>> (nI h &&& 31)) &&& Int32.ofInt 1 = Int32.ofInt 1 := of_decide_eq_false q2
                clear x150
                refine hG _ _ _ _ _ _ ?_
                (conv => whnf)
                repeat' (first
                  | ((with_reducible refine @And.intro (vp_in _ _) _ ?_ ?_); (· (first | with_reducible assumption | ((with_reducible refine t_vin ?_); decide) | ((with_reducible refine vp_in_nI ?_ ?_) <;> first | omega | decide) | (simp (disch := omega) only [xl_n, xl_m, nI_dec, nI_sb, nI_add, pk_mul]; (with_reducible refine vp_in_nI ?_ ?_) <;> first | omega | decide))); (conv => whnf))
                  | (refine And.intro (by first | with_reducible assumption | exact (show cL _ _ = _ from rfl) | decide) ?_; (conv => whnf))
                  | ((with_reducible refine @And.intro (_ = _) _ ?_ ?_); (· rfl); (conv => whnf))
                  | ((with_reducible refine @And.intro (@LE.le Nat _ _ _) _ ?_ ?_); (· (first | exact Nat.zero_le _ | exact Nat.le_of_ble_eq_true rfl | omega)); (conv => whnf))
                  | ((with_reducible refine @And.intro (@LT.lt Nat _ _ _) _ ?_ ?_); (· omega); (conv => whnf))
                  | ((with_reducible refine @And.intro (∃ _, _ = _) _ ?_ ?_); (· exact ⟨_, rfl⟩); (conv => whnf))
                  | ((with_reducible refine @And.intro (_ ∨ _) _ ?_ ?_); (· (first | exact Or.inl rfl | exact Or.inr rfl | exact t_b01 _ | assumption)); (conv => whnf))
                  | ((with_reducible refine @And.intro (¬ (_ = _)) _ ?_ ?_); (· first | assumption | (with_reducible assumption)); (conv => whnf))
                  | (refine hX _ _ _ _ _ _ ?_; (conv => whnf); fail_if_success show False)
                  | (rw [c_si]; (conv => whnf))
                  | (refine ⟨_, rfl, ?_⟩; (conv => whnf))
                  | (refine ⟨_, _, rfl, ?_⟩; (conv => whnf))
                  | (refine ⟨_, _, _, rfl, ?_⟩; (conv => whnf))
                  | (refine ⟨_, _, _, _, rfl, ?_⟩; (conv => whnf))
                  | (refine ⟨nI (j+1),rfl,m9,?_⟩; (conv => whnf))
                  | (refine ⟨_,L,rfl,hok,?_⟩; (conv => whnf))
                  | (refine And.intro (fun c => ?_) (fun c => ?_) <;> (first | (exact absurd c (by decide +kernel)) | (exact absurd c (by assumption)) | (exact False.elim (c (by assumption))) | (conv => whnf)))
                  | fail)
                exact fin
              · have g4 : nI p = nI q := by rw [q1]
                have g5 : (nI (j + 1) >>> (nI h &&& 31)) &&& Int32.ofInt 1 = Int32.ofInt 1 := of_decide_eq_true q2
                have efn : (fun c => g_okl h q ((p, l) :: r) (nI (j + 1) :: c)) = g_okl h q r := funext fun c => by
                  show (decide (decide (p = q) = t_has (nI (j + 1)) h) && _) = _
                  rw [q2, decide_eq_true q1]
                  rfl
                rw [efn] at x150
                refine hG _ _ _ _ _ _ ?_
                (conv => whnf)
                repeat' (first
                  | ((with_reducible refine @And.intro (vp_in _ _) _ ?_ ?_); (· (first | with_reducible assumption | ((with_reducible refine t_vin ?_); decide) | ((with_reducible refine vp_in_nI ?_ ?_) <;> first | omega | decide) | (simp (disch := omega) only [xl_n, xl_m, nI_dec, nI_sb, nI_add, pk_mul]; (with_reducible refine vp_in_nI ?_ ?_) <;> first | omega | decide))); (conv => whnf))
                  | (refine And.intro (by first | with_reducible assumption | exact (show cL _ _ = _ from rfl) | decide) ?_; (conv => whnf))
                  | ((with_reducible refine @And.intro (_ = _) _ ?_ ?_); (· rfl); (conv => whnf))
                  | ((with_reducible refine @And.intro (@LE.le Nat _ _ _) _ ?_ ?_); (· (first | exact Nat.zero_le _ | exact Nat.le_of_ble_eq_true rfl | omega)); (conv => whnf))
                  | ((with_reducible refine @And.intro (@LT.lt Nat _ _ _) _ ?_ ?_); (· omega); (conv => whnf))
                  | ((with_reducible refine @And.intro (∃ _, _ = _) _ ?_ ?_); (· exact ⟨_, rfl⟩); (conv => whnf))
                  | ((with_reducible refine @And.intro (_ ∨ _) _ ?_ ?_); (· (first | exact Or.inl rfl | exact Or.inr rfl | exact t_b01 _ | assumption)); (conv => whnf))
                  | ((with_reducible refine @And.intro (¬ (_ = _)) _ ?_ ?_); (· first | assumption | (with_reducible assumption)); (conv => whnf))
                  | (refine hX _ _ _ _ _ _ ?_; (conv => whnf); fail_if_success show False)
                  | (rw [c_si]; (conv => whnf))
                  | (refine ⟨_, rfl, ?_⟩; (conv => whnf))
                  | (refine ⟨_, _, rfl, ?_⟩; (conv => whnf))
                  | (refine ⟨_, _, _, rfl, ?_⟩; (conv => whnf))
                  | (refine ⟨_, _, _, _, rfl, ?_⟩; (conv => whnf))
                  | (refine ⟨nI (j+1),rfl,m9,?_⟩; (conv => whnf))
                  | (refine ⟨_,L,rfl,hok,?_⟩; (conv => whnf))
                  | (refine And.intro (fun c => ?_) (fun c => ?_) <;> (first | (exact absurd c (by decide +kernel)) | (exact absurd c (by assumption)) | (exact False.elim (c (by assumption))) | (conv => whnf)))
                  | fail)
                refine ⟨a, k + 1, h, q, L, T, al, left &&& (nI (j + 1) ^^^ nM), used ||| nI (j + 1), r, ?_, hg, hk0, ha, hh, hq8, ?_, ?_, ?_, hlu.nx cf, ?_⟩
                · show [_, _, Value.int (nI k + Int32.ofInt 1), Value.int (left &&& (nI (j + 1) ^^^ Int32.ofInt (-1))), _, _, _] = _
                  rw [xl_n.2.1, nI_add, xl_m]
                · rw [ema, ← hlen]
                  omega
                · simp at hd
                  exact hd
                · intro i p' l' hi
                  rw [show k + 1 + i = k + (i + 1) by omega]
                  exact hrest (i + 1) p' l' hi
                · cases qq : (g_cs (cG P I L) T al r (used ||| nI (j + 1))).any (g_okl h q r) with
                  | true =>
                    have e : g_pany (cG P I L) T al used p r (g_okl h q ((p, l) :: r)) 511 = true := g_pany_t (k := j + 1) (by rw [g_pany_s, can, efn, qq]; simp) (by omega)
                    rw [e] at hQ
                    have d2 : ¬ t_b true = 0 := by decide +kernel
                    clear x150
                    (conv => whnf)
                    refine And.intro (fun c => absurd c d2) (fun _ => ?_)
                    (conv => whnf)
                    repeat' (first
                      | ((with_reducible refine @And.intro (vp_in _ _) _ ?_ ?_); (· (first | with_reducible assumption | ((with_reducible refine t_vin ?_); decide) | ((with_reducible refine vp_in_nI ?_ ?_) <;> first | omega | decide) | (simp (disch := omega) only [xl_n, xl_m, nI_dec, nI_sb, nI_add, pk_mul]; (with_reducible refine vp_in_nI ?_ ?_) <;> first | omega | decide))); (conv => whnf))
                      | (refine And.intro (by first | with_reducible assumption | exact (show cL _ _ = _ from rfl) | decide) ?_; (conv => whnf))
                      | ((with_reducible refine @And.intro (_ = _) _ ?_ ?_); (· rfl); (conv => whnf))
                      | ((with_reducible refine @And.intro (@LE.le Nat _ _ _) _ ?_ ?_); (· (first | exact Nat.zero_le _ | exact Nat.le_of_ble_eq_true rfl | omega)); (conv => whnf))
                      | ((with_reducible refine @And.intro (@LT.lt Nat _ _ _) _ ?_ ?_); (· omega); (conv => whnf))
                      | ((with_reducible refine @And.intro (∃ _, _ = _) _ ?_ ?_); (· exact ⟨_, rfl⟩); (conv => whnf))
                      | ((with_reducible refine @And.intro (_ ∨ _) _ ?_ ?_); (· (first | exact Or.inl rfl | exact Or.inr rfl | exact t_b01 _ | assumption)); (conv => whnf))
                      | ((with_reducible refine @And.intro (¬ (_ = _)) _ ?_ ?_); (· first | assumption | (with_reducible assumption)); (conv => whnf))
                      | (refine hX _ _ _ _ _ _ ?_; (conv => whnf); fail_if_success show False)
                      | (rw [c_si]; (conv => whnf))
                      | (refine ⟨_, rfl, ?_⟩; (conv => whnf))
                      | (refine ⟨_, _, rfl, ?_⟩; (conv => whnf))
                      | (refine ⟨_, _, _, rfl, ?_⟩; (conv => whnf))
                      | (refine ⟨_, _, _, _, rfl, ?_⟩; (conv => whnf))
                      | (refine And.intro (fun c => ?_) (fun c => ?_) <;> (first | (exact absurd c (by decide +kernel)) | (conv => whnf)))
                      | fail)
                    exact hQ
                  | false =>
                    have fin := x150 qq
                    have d2 : t_b false = 0 := rfl
                    clear x150
                    (conv => whnf)
                    refine And.intro (fun _ => ?_) (fun c => absurd d2 c)
                    (conv => whnf)
                    repeat' (first
                      | ((with_reducible refine @And.intro (vp_in _ _) _ ?_ ?_); (· (first | with_reducible assumption | ((with_reducible refine t_vin ?_); decide) | ((with_reducible refine vp_in_nI ?_ ?_) <;> first | omega | decide) | (simp (disch := omega) only [xl_n, xl_m, nI_dec, nI_sb, nI_add, pk_mul]; (with_reducible refine vp_in_nI ?_ ?_) <;> first | omega | decide))); (conv => whnf))
                      | (refine And.intro (by first | with_reducible assumption | exact (show cL _ _ = _ from rfl) | decide) ?_; (conv => whnf))
                      | ((with_reducible refine @And.intro (_ = _) _ ?_ ?_); (· rfl); (conv => whnf))
                      | ((with_reducible refine @And.intro (@LE.le Nat _ _ _) _ ?_ ?_); (· (first | exact Nat.zero_le _ | exact Nat.le_of_ble_eq_true rfl | omega)); (conv => whnf))
                      | ((with_reducible refine @And.intro (@LT.lt Nat _ _ _) _ ?_ ?_); (· omega); (conv => whnf))
                      | ((with_reducible refine @And.intro (∃ _, _ = _) _ ?_ ?_); (· exact ⟨_, rfl⟩); (conv => whnf))
                      | ((with_reducible refine @And.intro (_ ∨ _) _ ?_ ?_); (· (first | exact Or.inl rfl | exact Or.inr rfl | exact t_b01 _ | assumption)); (conv => whnf))
                      | ((with_reducible refine @And.intro (¬ (_ = _)) _ ?_ ?_); (· first | assumption | (with_reducible assumption)); (conv => whnf))
                      | (refine hX _ _ _ _ _ _ ?_; (conv => whnf); fail_if_success show False)
                      | (rw [c_si]; (conv => whnf))
                      | (refine ⟨_, rfl, ?_⟩; (conv => whnf))
                      | (refine ⟨_, _, rfl, ?_⟩; (conv => whnf))
                      | (refine ⟨_, _, _, rfl, ?_⟩; (conv => whnf))
                      | (refine ⟨_, _, _, _, rfl, ?_⟩; (conv => whnf))
                      | (refine And.intro (fun c => ?_) (fun c => ?_) <;> (first | (exact absurd c (by decide +kernel)) | (conv => whnf)))
                      | fail)
                    exact fin
              · have g4 : ¬ nI p = nI q := by
                  rw [nI_eq (by omega) (by omega)]
                  exact q1
                have g5 : ¬ (nI (j + 1) >>> (nI h &&& 31)) &&& Int32.ofInt 1 = Int32.ofInt 1 := of_decide_eq_false q2
                have efn : (fun c => g_okl h q ((p, l) :: r) (nI (j + 1) :: c)) = g_okl h q r := funext fun c => by
                  show (decide (decide (p = q) = t_has (nI (j + 1)) h) && _) = _
                  rw [q2, decide_eq_false q1]
                  rfl
                rw [efn] at x150
                refine hG _ _ _ _ _ _ ?_
                (conv => whnf)
                repeat' (first
                  | ((with_reducible refine @And.intro (vp_in _ _) _ ?_ ?_); (· (first | with_reducible assumption | ((with_reducible refine t_vin ?_); decide) | ((with_reducible refine vp_in_nI ?_ ?_) <;> first | omega | decide) | (simp (disch := omega) only [xl_n, xl_m, nI_dec, nI_sb, nI_add, pk_mul]; (with_reducible refine vp_in_nI ?_ ?_) <;> first | omega | decide))); (conv => whnf))
                  | (refine And.intro (by first | with_reducible assumption | exact (show cL _ _ = _ from rfl) | decide) ?_; (conv => whnf))
                  | ((with_reducible refine @And.intro (_ = _) _ ?_ ?_); (· rfl); (conv => whnf))
                  | ((with_reducible refine @And.intro (@LE.le Nat _ _ _) _ ?_ ?_); (· (first | exact Nat.zero_le _ | exact Nat.le_of_ble_eq_true rfl | omega)); (conv => whnf))
                  | ((with_reducible refine @And.intro (@LT.lt Nat _ _ _) _ ?_ ?_); (· omega); (conv => whnf))
                  | ((with_reducible refine @And.intro (∃ _, _ = _) _ ?_ ?_); (· exact ⟨_, rfl⟩); (conv => whnf))
                  | ((with_reducible refine @And.intro (_ ∨ _) _ ?_ ?_); (· (first | exact Or.inl rfl | exact Or.inr rfl | exact t_b01 _ | assumption)); (conv => whnf))
                  | ((with_reducible refine @And.intro (¬ (_ = _)) _ ?_ ?_); (· first | assumption | (with_reducible assumption)); (conv => whnf))
                  | (refine hX _ _ _ _ _ _ ?_; (conv => whnf); fail_if_success show False)
                  | (rw [c_si]; (conv => whnf))
                  | (refine ⟨_, rfl, ?_⟩; (conv => whnf))
                  | (refine ⟨_, _, rfl, ?_⟩; (conv => whnf))
                  | (refine ⟨_, _, _, rfl, ?_⟩; (conv => whnf))
                  | (refine ⟨_, _, _, _, rfl, ?_⟩; (conv => whnf))
                  | (refine ⟨nI (j+1),rfl,m9,?_⟩; (conv => whnf))
                  | (refine ⟨_,L,rfl,hok,?_⟩; (conv => whnf))
                  | (refine And.intro (fun c => ?_) (fun c => ?_) <;> (first | (exact absurd c (by decide +kernel)) | (exact absurd c (by assumption)) | (exact False.elim (c (by assumption))) | (conv => whnf)))
                  | fail)
                refine ⟨a, k + 1, h, q, L, T, al, left &&& (nI (j + 1) ^^^ nM), used ||| nI (j + 1), r, ?_, hg, hk0, ha, hh, hq8, ?_, ?_, ?_, hlu.nx cf, ?_⟩
                · show [_, _, Value.int (nI k + Int32.ofInt 1), Value.int (left &&& (nI (j + 1) ^^^ Int32.ofInt (-1))), _, _, _] = _
                  rw [xl_n.2.1, nI_add, xl_m]
                · rw [ema, ← hlen]
                  omega
                · simp at hd
                  exact hd
                · intro i p' l' hi
                  rw [show k + 1 + i = k + (i + 1) by omega]
                  exact hrest (i + 1) p' l' hi
                · cases qq : (g_cs (cG P I L) T al r (used ||| nI (j + 1))).any (g_okl h q r) with
                  | true =>
                    have e : g_pany (cG P I L) T al used p r (g_okl h q ((p, l) :: r)) 511 = true := g_pany_t (k := j + 1) (by rw [g_pany_s, can, efn, qq]; simp) (by omega)
                    rw [e] at hQ
                    have d2 : ¬ t_b true = 0 := by decide +kernel
                    clear x150
                    (conv => whnf)
                    refine And.intro (fun c => absurd c d2) (fun _ => ?_)
                    (conv => whnf)
                    repeat' (first
                      | ((with_reducible refine @And.intro (vp_in _ _) _ ?_ ?_); (· (first | with_reducible assumption | ((with_reducible refine t_vin ?_); decide) | ((with_reducible refine vp_in_nI ?_ ?_) <;> first | omega | decide) | (simp (disch := omega) only [xl_n, xl_m, nI_dec, nI_sb, nI_add, pk_mul]; (with_reducible refine vp_in_nI ?_ ?_) <;> first | omega | decide))); (conv => whnf))
                      | (refine And.intro (by first | with_reducible assumption | exact (show cL _ _ = _ from rfl) | decide) ?_; (conv => whnf))
                      | ((with_reducible refine @And.intro (_ = _) _ ?_ ?_); (· rfl); (conv => whnf))
                      | ((with_reducible refine @And.intro (@LE.le Nat _ _ _) _ ?_ ?_); (· (first | exact Nat.zero_le _ | exact Nat.le_of_ble_eq_true rfl | omega)); (conv => whnf))
                      | ((with_reducible refine @And.intro (@LT.lt Nat _ _ _) _ ?_ ?_); (· omega); (conv => whnf))
                      | ((with_reducible refine @And.intro (∃ _, _ = _) _ ?_ ?_); (· exact ⟨_, rfl⟩); (conv => whnf))
                      | ((with_reducible refine @And.intro (_ ∨ _) _ ?_ ?_); (· (first | exact Or.inl rfl | exact Or.inr rfl | exact t_b01 _ | assumption)); (conv => whnf))
                      | ((with_reducible refine @And.intro (¬ (_ = _)) _ ?_ ?_); (· first | assumption | (with_reducible assumption)); (conv => whnf))
                      | (refine hX _ _ _ _ _ _ ?_; (conv => whnf); fail_if_success show False)
                      | (rw [c_si]; (conv => whnf))
                      | (refine ⟨_, rfl, ?_⟩; (conv => whnf))
                      | (refine ⟨_, _, rfl, ?_⟩; (conv => whnf))
                      | (refine ⟨_, _, _, rfl, ?_⟩; (conv => whnf))
                      | (refine ⟨_, _, _, _, rfl, ?_⟩; (conv => whnf))
                      | (refine And.intro (fun c => ?_) (fun c => ?_) <;> (first | (exact absurd c (by decide +kernel)) | (conv => whnf)))
                      | fail)
                    exact hQ
                  | false =>
                    have fin := x150 qq
                    have d2 : t_b false = 0 := rfl
                    clear x150
                    (conv => whnf)
                    refine And.intro (fun _ => ?_) (fun c => absurd d2 c)
                    (conv => whnf)
                    repeat' (first
                      | ((with_reducible refine @And.intro (vp_in _ _) _ ?_ ?_); (· (first | with_reducible assumption | ((with_reducible refine t_vin ?_); decide) | ((with_reducible refine vp_in_nI ?_ ?_) <;> first | omega | decide) | (simp (disch := omega) only [xl_n, xl_m, nI_dec, nI_sb, nI_add, pk_mul]; (with_reducible refine vp_in_nI ?_ ?_) <;> first | omega | decide))); (conv => whnf))
                      | (refine And.intro (by first | with_reducible assumption | exact (show cL _ _ = _ from rfl) | decide) ?_; (conv => whnf))
                      | ((with_reducible refine @And.intro (_ = _) _ ?_ ?_); (· rfl); (conv => whnf))
                      | ((with_reducible refine @And.intro (@LE.le Nat _ _ _) _ ?_ ?_); (· (first | exact Nat.zero_le _ | exact Nat.le_of_ble_eq_true rfl | omega)); (conv => whnf))
                      | ((with_reducible refine @And.intro (@LT.lt Nat _ _ _) _ ?_ ?_); (· omega); (conv => whnf))
                      | ((with_reducible refine @And.intro (∃ _, _ = _) _ ?_ ?_); (· exact ⟨_, rfl⟩); (conv => whnf))
                      | ((with_reducible refine @And.intro (_ ∨ _) _ ?_ ?_); (· (first | exact Or.inl rfl | exact Or.inr rfl | exact t_b01 _ | assumption)); (conv => whnf))
                      | ((with_reducible refine @And.intro (¬ (_ = _)) _ ?_ ?_); (· first | assumption | (with_reducible assumption)); (conv => whnf))
                      | (refine hX _ _ _ _ _ _ ?_; (conv => whnf); fail_if_success show False)
                      | (rw [c_si]; (conv => whnf))
                      | (refine ⟨_, rfl, ?_⟩; (conv => whnf))
                      | (refine ⟨_, _, rfl, ?_⟩; (conv => whnf))
                      | (refine ⟨_, _, _, rfl, ?_⟩; (conv => whnf))
                      | (refine ⟨_, _, _, _, rfl, ?_⟩; (conv => whnf))
                      | (refine And.intro (fun c => ?_) (fun c => ?_) <;> (first | (exact absurd c (by decide +kernel)) | (conv => whnf)))
                      | fail)
                    exact fin
              · have fin := x150 (by
                  have : (fun c => g_okl h q ((p, l) :: r) (nI (j + 1) :: c)) = fun _ => false := funext fun c => by
                    show (decide (decide (p = q) = t_has (nI (j + 1)) h) && _) = false
                    rw [q2, decide_eq_false q1]
                    rfl
                  rw [this]
                  simp)
                have g4 : ¬ nI p = nI q := by
                  rw [nI_eq (by omega) (by omega)]
                  exact q1
                have g5 : (nI (j + 1) >>> (nI h &&& 31)) &&& Int32.ofInt 1 = Int32.ofInt 1 := of_decide_eq_true q2
                clear x150
                refine hG _ _ _ _ _ _ ?_
                (conv => whnf)
                repeat' (first
                  | ((with_reducible refine @And.intro (vp_in _ _) _ ?_ ?_); (· (first | with_reducible assumption | ((with_reducible refine t_vin ?_); decide) | ((with_reducible refine vp_in_nI ?_ ?_) <;> first | omega | decide) | (simp (disch := omega) only [xl_n, xl_m, nI_dec, nI_sb, nI_add, pk_mul]; (with_reducible refine vp_in_nI ?_ ?_) <;> first | omega | decide))); (conv => whnf))
                  | (refine And.intro (by first | with_reducible assumption | exact (show cL _ _ = _ from rfl) | decide) ?_; (conv => whnf))
                  | ((with_reducible refine @And.intro (_ = _) _ ?_ ?_); (· rfl); (conv => whnf))
                  | ((with_reducible refine @And.intro (@LE.le Nat _ _ _) _ ?_ ?_); (· (first | exact Nat.zero_le _ | exact Nat.le_of_ble_eq_true rfl | omega)); (conv => whnf))
                  | ((with_reducible refine @And.intro (@LT.lt Nat _ _ _) _ ?_ ?_); (· omega); (conv => whnf))
                  | ((with_reducible refine @And.intro (∃ _, _ = _) _ ?_ ?_); (· exact ⟨_, rfl⟩); (conv => whnf))
                  | ((with_reducible refine @And.intro (_ ∨ _) _ ?_ ?_); (· (first | exact Or.inl rfl | exact Or.inr rfl | exact t_b01 _ | assumption)); (conv => whnf))
                  | ((with_reducible refine @And.intro (¬ (_ = _)) _ ?_ ?_); (· first | assumption | (with_reducible assumption)); (conv => whnf))
                  | (refine hX _ _ _ _ _ _ ?_; (conv => whnf); fail_if_success show False)
                  | (rw [c_si]; (conv => whnf))
                  | (refine ⟨_, rfl, ?_⟩; (conv => whnf))
                  | (refine ⟨_, _, rfl, ?_⟩; (conv => whnf))
                  | (refine ⟨_, _, _, rfl, ?_⟩; (conv => whnf))
                  | (refine ⟨_, _, _, _, rfl, ?_⟩; (conv => whnf))
                  | (refine ⟨nI (j+1),rfl,m9,?_⟩; (conv => whnf))
                  | (refine ⟨_,L,rfl,hok,?_⟩; (conv => whnf))
                  | (refine And.intro (fun c => ?_) (fun c => ?_) <;> (first | (exact absurd c (by decide +kernel)) | (exact absurd c (by assumption)) | (exact False.elim (c (by assumption))) | (conv => whnf)))
                  | fail)
                exact fin
          · have g2 : ¬ t_ones (nI (j + 1)) = I 36 (nI p).toNatClampNeg := by rw [b36]; exact f2
            have fin := x150 (by rw [← ecan, eflt, decide_eq_false f2, Bool.and_false]; rfl)
            clear x150
            refine hG _ _ _ _ _ _ ?_
            (conv => whnf)
            repeat' (first
              | ((with_reducible refine @And.intro (vp_in _ _) _ ?_ ?_); (· (first | with_reducible assumption | ((with_reducible refine t_vin ?_); decide) | ((with_reducible refine vp_in_nI ?_ ?_) <;> first | omega | decide) | (simp (disch := omega) only [xl_n, xl_m, nI_dec, nI_sb, nI_add, pk_mul]; (with_reducible refine vp_in_nI ?_ ?_) <;> first | omega | decide))); (conv => whnf))
              | (refine And.intro (by first | with_reducible assumption | exact (show cL _ _ = _ from rfl) | decide) ?_; (conv => whnf))
              | ((with_reducible refine @And.intro (_ = _) _ ?_ ?_); (· rfl); (conv => whnf))
              | ((with_reducible refine @And.intro (@LE.le Nat _ _ _) _ ?_ ?_); (· (first | exact Nat.zero_le _ | exact Nat.le_of_ble_eq_true rfl | omega)); (conv => whnf))
              | ((with_reducible refine @And.intro (@LT.lt Nat _ _ _) _ ?_ ?_); (· omega); (conv => whnf))
              | ((with_reducible refine @And.intro (∃ _, _ = _) _ ?_ ?_); (· exact ⟨_, rfl⟩); (conv => whnf))
              | ((with_reducible refine @And.intro (_ ∨ _) _ ?_ ?_); (· (first | exact Or.inl rfl | exact Or.inr rfl | exact t_b01 _ | assumption)); (conv => whnf))
              | ((with_reducible refine @And.intro (¬ (_ = _)) _ ?_ ?_); (· first | assumption | (with_reducible assumption)); (conv => whnf))
              | (refine hX _ _ _ _ _ _ ?_; (conv => whnf); fail_if_success show False)
              | (rw [c_si]; (conv => whnf))
              | (refine ⟨_, rfl, ?_⟩; (conv => whnf))
              | (refine ⟨_, _, rfl, ?_⟩; (conv => whnf))
              | (refine ⟨_, _, _, rfl, ?_⟩; (conv => whnf))
              | (refine ⟨_, _, _, _, rfl, ?_⟩; (conv => whnf))
              | (refine ⟨nI (j+1),rfl,m9,?_⟩; (conv => whnf))
              | (refine And.intro (fun c => ?_) (fun c => ?_) <;> (first | (exact absurd c (by decide +kernel)) | (exact absurd c (by assumption)) | (exact False.elim (c (by assumption))) | (conv => whnf)))
              | fail)
            exact fin
        · have g1 : ¬ nI (j + 1) &&& ((left &&& (I 39 p ^^^ nM)) ^^^ Int32.ofInt (-1)) = 0 := f1
          have fin := x150 (by rw [← ecan, eflt, decide_eq_false f1]; rfl)
          clear x150
          refine hG _ _ _ _ _ _ ?_
          (conv => whnf)
          repeat' (first
            | ((with_reducible refine @And.intro (vp_in _ _) _ ?_ ?_); (· (first | with_reducible assumption | ((with_reducible refine t_vin ?_); decide) | ((with_reducible refine vp_in_nI ?_ ?_) <;> first | omega | decide) | (simp (disch := omega) only [xl_n, xl_m, nI_dec, nI_sb, nI_add, pk_mul]; (with_reducible refine vp_in_nI ?_ ?_) <;> first | omega | decide))); (conv => whnf))
            | (refine And.intro (by first | with_reducible assumption | exact (show cL _ _ = _ from rfl) | decide) ?_; (conv => whnf))
            | ((with_reducible refine @And.intro (_ = _) _ ?_ ?_); (· rfl); (conv => whnf))
            | ((with_reducible refine @And.intro (@LE.le Nat _ _ _) _ ?_ ?_); (· (first | exact Nat.zero_le _ | exact Nat.le_of_ble_eq_true rfl | omega)); (conv => whnf))
            | ((with_reducible refine @And.intro (@LT.lt Nat _ _ _) _ ?_ ?_); (· omega); (conv => whnf))
            | ((with_reducible refine @And.intro (∃ _, _ = _) _ ?_ ?_); (· exact ⟨_, rfl⟩); (conv => whnf))
            | ((with_reducible refine @And.intro (_ ∨ _) _ ?_ ?_); (· (first | exact Or.inl rfl | exact Or.inr rfl | exact t_b01 _ | assumption)); (conv => whnf))
            | ((with_reducible refine @And.intro (¬ (_ = _)) _ ?_ ?_); (· first | assumption | (with_reducible assumption)); (conv => whnf))
            | (refine hX _ _ _ _ _ _ ?_; (conv => whnf); fail_if_success show False)
            | (rw [c_si]; (conv => whnf))
            | (refine ⟨_, rfl, ?_⟩; (conv => whnf))
            | (refine ⟨_, _, rfl, ?_⟩; (conv => whnf))
            | (refine ⟨_, _, _, rfl, ?_⟩; (conv => whnf))
            | (refine ⟨_, _, _, _, rfl, ?_⟩; (conv => whnf))
            | (refine And.intro (fun c => ?_) (fun c => ?_) <;> (first | (exact absurd c (by decide +kernel)) | (exact absurd c (by assumption)) | (exact False.elim (c (by assumption))) | (conv => whnf)))
            | fail)
          exact fin
    have x := l2 0 (Nat.zero_le _) rfl
    clear l2
    have e90 : xm_fld (cW P Z I) (90 + a) (nI k).toNatClampNeg 0 = .int (nI p) := by
      show Value.int (I (90 + a) (nI k).toNatClampNeg) = _
      rw [nI_clamp (by omega), (c_pup hg ha (by omega)).2, ep]
    have e90b : (cW P Z I).2.1 (90 + a) (nI k).toNatClampNeg = nI p := Value.int.inj e90
    repeat' (first
      | ((with_reducible refine @And.intro (vp_in _ _) _ ?_ ?_); (· (first | with_reducible assumption | ((with_reducible refine t_vin ?_); decide) | ((with_reducible refine vp_in_nI ?_ ?_) <;> first | omega | decide) | (simp (disch := omega) only [xl_n, xl_m, nI_dec, nI_sb, nI_add, pk_mul]; (with_reducible refine vp_in_nI ?_ ?_) <;> first | omega | decide))); (conv => whnf))
      | (refine And.intro (by first | with_reducible assumption | exact (show cL _ _ = _ from rfl) | decide) ?_; (conv => whnf))
      | ((with_reducible refine @And.intro (_ = _) _ ?_ ?_); (· rfl); (conv => whnf))
      | ((with_reducible refine @And.intro (@LE.le Nat _ _ _) _ ?_ ?_); (· (first | exact Nat.zero_le _ | exact Nat.le_of_ble_eq_true rfl | omega)); (conv => whnf))
      | ((with_reducible refine @And.intro (@LT.lt Nat _ _ _) _ ?_ ?_); (· omega); (conv => whnf))
      | ((with_reducible refine @And.intro (∃ _, _ = _) _ ?_ ?_); (· exact ⟨_, rfl⟩); (conv => whnf))
      | ((with_reducible refine @And.intro (_ ∨ _) _ ?_ ?_); (· (first | exact Or.inl rfl | exact Or.inr rfl | exact t_b01 _ | assumption)); (conv => whnf))
      | ((with_reducible refine @And.intro (¬ (_ = _)) _ ?_ ?_); (· first | assumption | (with_reducible assumption)); (conv => whnf))
      | (refine hX _ _ _ _ _ _ ?_; (conv => whnf); fail_if_success show False)
      | (rw [c_si]; (conv => whnf))
      | (refine ⟨_, rfl, ?_⟩; (conv => whnf))
      | (refine ⟨_, _, rfl, ?_⟩; (conv => whnf))
      | (refine ⟨_, _, _, rfl, ?_⟩; (conv => whnf))
      | (refine ⟨_, _, _, _, rfl, ?_⟩; (conv => whnf))
      | (rw [c_ac ha h6]; (conv => whnf))
      | (rw [c_af ha h6]; (conv => whnf))
      | (rw [c_av ha h6]; (conv => whnf))
      | (rw [e90]; (conv => whnf))
      | (rw [e90b]; (conv => whnf))
      | (refine And.intro (fun c => ?_) (fun c => ?_) <;> (first | (exact absurd c (by decide +kernel)) | (exact absurd c (by assumption)) | (exact False.elim (c (by assumption))) | (conv => whnf)))
      | fail)
    clear hX hG hQ
    simp (disch := omega) only [xl_n, xl_m, nI_dec, nI_sb, xl_0, xl_1, cW_i, Nat.add_zero, Nat.reduceAdd, Nat.reduceMul, t_bn0, t_bn1, Classical.not_not, t_lt, nI_add, nI_1, pk_mul, nI_clamp, c_si, nI_eq, nI_leI, nM_ne, nM_ne, xm_set, xm_lv0, xm_psh] at *
    exact x
theorem ct_X1_isIn : ∀ d, xm_Ct cI yX1_isIn (ws_ yX1_isIn cX1_isIn 10 (some .boolean)) (d + 9) 0 0 (S_X1_isIn d)
  | 0 => xm_ct0
  | d + 1 => xm_enter (rt := 1) (init := false) (by decide +kernel) rfl (fun h => by cases h) (Or.inr (Or.inl ⟨rfl, Or.inl rfl⟩)) (oX1_isIn d (ct_X1_isIn d)) (body_X1_isIn d)
theorem cv_X1_isIn {own : String} {cc : ByteArray} {fr pc idx : Nat} (hdg : decode cc pc = .ok (.invokevirtual idx, 3)) (hl : xm_ml own idx yX1_isIn) (hfr : 16 < fr) : xm_CallOK cI own cc fr pc (pc + 3) 7 0 0 (xm_this 0 (S_X1_isIn 7)) := xm_callV 0 cI_good (ct_X1_isIn 7) hdg hl q1893 qs47 q116 q1894 rfl rfl (by decide +kernel) hfr (by decide)

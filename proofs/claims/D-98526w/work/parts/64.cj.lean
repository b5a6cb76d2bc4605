/-! ===== the reference: nights ===== -/
set_option maxRecDepth 100000
/-- the first that answers -/
def g_1st {α : Type} (f : Nat → Option α) : Nat → Option α
  | 0 => none
  | n + 1 => match g_1st f n with
    | some r => some r
    | none => f n
theorem g_1st_s {α : Type} {f : Nat → Option α} {n : Nat} : g_1st f (n + 1) = match g_1st f n with | some r => some r | none => f n := rfl
theorem g_1st_mono {α : Type} {f : Nat → Option α} {k n : Nat} {r : α} (h : g_1st f k = some r) (hk : k ≤ n) : g_1st f n = some r := by
  induction n with
  | zero =>
    have : k = 0 := by omega
    subst this
    exact h
  | succ n ih =>
    by_cases e : k = n + 1
    · subst e
      exact h
    · rw [g_1st_s, ih (by omega)]
theorem g_1st_some {α : Type} {f : Nat → Option α} {n : Nat} : ∀ {k : Nat}, k < n → f k ≠ none → g_1st f n ≠ none := by
  induction n with
  | zero => intro k h; omega
  | succ n ih =>
    intro k h hf
    rw [g_1st_s]
    cases e : g_1st f n with
    | some r => simp
    | none =>
      by_cases q : k = n
      · subst q
        exact hf
      · exact absurd e (ih (by omega) hf)
/-- the hand at h sits well in the night n -/
def g_seatok (G : gG) (pre : List Int32) (n : Int32) (h : Nat) : Nat → Bool
  | 0 => true
  | g + 1 => g_seatok G pre n h g && !(t_has (gsil G h) g && decide (pre.getD g (nI 0) = n))
def g_seat (G : gG) (many : Nat) : Nat → List Int32 → Option (List Int32)
  | 0, pre => some pre
  | d + 1, pre => if g_al (gGK G) (gnow G) pre.length = true then g_1st (fun n => if g_seatok G pre (nI n) pre.length pre.length = true then g_seat G many d (pre ++ [nI n]) else none) many else g_seat G many d (pre ++ [nM])
theorem g_seat_s {G : gG} {many d : Nat} {pre : List Int32} : g_seat G many (d + 1) pre = if g_al (gGK G) (gnow G) pre.length = true then g_1st (fun n => if g_seatok G pre (nI n) pre.length pre.length = true then g_seat G many d (pre ++ [nI n]) else none) many else g_seat G many d (pre ++ [nM]) := rfl
theorem g_pig : ∀ (m : Nat) (l : List Nat), (∀ n, n < m → n ∈ l) → m ≤ l.length
  | 0, _, _ => Nat.zero_le _
  | m + 1, l, h => by
    have h1 := h m (by omega)
    have h2 := g_pig m (l.erase m) fun n hn => (List.mem_erase_of_ne (by omega)).mpr (h n (by omega))
    rw [List.length_erase_of_mem h1] at h2
    have : 0 < l.length := List.length_pos_of_mem h1
    omega
theorem g_seatok_t {G : gG} {pre : List Int32} {n : Int32} {h : Nat} : ∀ {k : Nat}, (∀ g, g < k → ¬ pre.getD g (nI 0) = n) → g_seatok G pre n h k = true
  | 0, _ => rfl
  | k + 1, hn => by
    show (g_seatok G pre n h k && !(t_has (gsil G h) k && decide (pre.getD k (nI 0) = n))) = true
    rw [g_seatok_t (fun g hg => hn g (by omega)), decide_eq_false (hn k (by omega)), Bool.and_false]
    rfl
/-- as many nights as hands are always enough -/
theorem g_seat_some {G : gG} {many : Nat} (h9 : many < 2 ^ 31) : ∀ (d : Nat) (pre : List Int32), pre.length + d ≤ many → g_seat G many d pre ≠ none
  | 0, pre, _ => by simp [g_seat]
  | d + 1, pre, h => by
    rw [g_seat_s]
    split
    · have : ∃ n, n < many ∧ ∀ g, g < pre.length → ¬ pre.getD g (nI 0) = nI n := by
        refine Classical.byContradiction fun hc => ?_
        have h1 : ∀ n, n < many → n ∈ pre.map (fun x => x.toNatClampNeg) := by
          intro n hn
          refine Classical.byContradiction fun hm => hc ⟨n, hn, fun g hg e => hm ?_⟩
          refine List.mem_map.mpr ⟨pre[g], List.getElem_mem hg, ?_⟩
          have e2 : pre[g] = nI n := by
            rw [← e]
            simp [List.getD, hg]
          rw [e2, nI_clamp (by omega)]
        have := g_pig many _ h1
        rw [List.length_map] at this
        omega
      obtain ⟨n, hn, hok⟩ := this
      refine g_1st_some hn ?_
      show (if g_seatok G pre (nI n) pre.length pre.length = true then g_seat G many d (pre ++ [nI n]) else none) ≠ none
      rw [if_pos (g_seatok_t hok)]
      exact g_seat_some h9 d _ (by rw [List.length_append]; simp; omega)
    · exact g_seat_some h9 d _ (by rw [List.length_append]; simp; omega)
def t_nt (I J : tI) : Prop := (∀ b, b ≠ 55 → J b = I b)
theorem t_nt.sp {I J : tI} (h : t_nt I J) : t_sp I J := ⟨fun b _ hf => h b (fun e => hf (by subst e; unfold t_free t_scr; omega)), fun k _ _ _ => by rw [h 0 (by decide)]⟩
theorem t_nt.tr {I J L : tI} (h : t_nt I J) (h2 : t_nt J L) : t_nt I L := fun b hb => (h2 b hb).trans (h b hb)
theorem t_nt.u {I : tI} {k : Nat} {v : Int32} : t_nt I (xm_u2 I 55 k v) := fun b hb => funext fun j => xm_u2_ne hb j
def S_X11_sits (d : Nat) : xS := match d with
  | 0 => fun _ _ _ _ => False
  | d + 1 => tU fun as I Q => ∃ pre many, as = [.ref 0, .int (nI pre.length), .int (nI many), .int (g_alive (tK I) (tA I 36))] ∧ t_good I ∧ many ≤ 9 ∧ pre.length ≤ t_h I ∧ t_h I - pre.length ≤ d ∧ (∀ j, j < pre.length → I 55 j = pre.getD j (nI 0)) ∧
    ∀ J, t_nt I J → (∀ j, j < pre.length → J 55 j = I 55 j) → (∀ r, g_seat (tG I) many (t_h I - pre.length) pre = some r → ∀ j, j < t_h I → J 55 j = r.getD j (nI 0)) → Q (some (.int (t_b (g_seat (tG I) many (t_h I - pre.length) pre).isSome))) J
abbrev bX11_sits_0 : List xE := [(.iload_n 1, 1, 0, 0, 0), (.aload_n 0, 2, 0, 0, 0), (.getfield 23, 5, 8, 12, 1), (.iconst 0, 6, 0, 0, 0), (.iaload, 7, 0, 0, 0), (.if_icmp .ne 5, 10, 0, 12, 0), (.iconst 1, 11, 0, 0, 0), (.ireturn, 12, 0, 0, 0)]
abbrev bX11_sits_12 : List xE := [(.aload_n 0, 13, 0, 0, 0), (.getfield 125, 16, 8, 55, 1), (.iload_n 1, 17, 0, 0, 0), (.iconst (-1), 18, 0, 0, 0), (.iastore, 19, 0, 0, 0), (.iload_n 3, 20, 0, 0, 0), (.iload_n 1, 21, 0, 0, 0), (.invokestatic 242, 24, 0, 0, 9), (.ifCond .ne 13, 27, 0, 37, 0), (.aload_n 0, 28, 0, 0, 0), (.iload_n 1, 29, 0, 0, 0), (.iconst 1, 30, 0, 0, 0), (.iadd, 31, 0, 0, 0), (.iload_n 2, 32, 0, 0, 0), (.iload_n 3, 33, 0, 0, 0), (.invokevirtual 427, 36, 0, 1, 9), (.ireturn, 37, 0, 0, 0)]
abbrev bX11_sits_37 : List xE := [(.iconst 0, 38, 0, 0, 0), (.istore 4, 40, 0, 0, 0)]
abbrev bX11_sits_40 : List xE := [(.iload 4, 42, 0, 0, 0), (.iload_n 2, 43, 0, 0, 0), (.if_icmp .ge 95, 46, 0, 138, 0), (.iconst 1, 47, 0, 0, 0), (.istore 5, 49, 0, 0, 0), (.iconst 0, 50, 0, 0, 0), (.istore 6, 52, 0, 0, 0)]
abbrev bX11_sits_52 : List xE := [(.iload 6, 54, 0, 0, 0), (.iload_n 1, 55, 0, 0, 0), (.if_icmp .ge 47, 58, 0, 102, 0), (.iload 5, 60, 0, 0, 0), (.ifCond .eq 33, 63, 0, 93, 0), (.aload_n 0, 64, 0, 0, 0), (.getfield 41, 67, 8, 18, 1), (.iload_n 1, 68, 0, 0, 0), (.iaload, 69, 0, 0, 0), (.iload 6, 71, 0, 0, 0), (.invokestatic 242, 74, 0, 0, 9), (.ifCond .eq 15, 77, 0, 89, 0), (.aload_n 0, 78, 0, 0, 0), (.getfield 125, 81, 8, 55, 1), (.iload 6, 83, 0, 0, 0), (.iaload, 84, 0, 0, 0), (.iload 4, 86, 0, 0, 0), (.if_icmp .eq 7, 89, 0, 93, 0)]
abbrev bX11_sits_89 : List xE := [(.iconst 1, 90, 0, 0, 0), (.goto 4, 93, 0, 94, 0)]
abbrev bX11_sits_93 : List xE := [(.iconst 0, 94, 0, 0, 0)]
abbrev bX11_sits_94 : List xE := [(.istore 5, 96, 0, 0, 0), (.iinc 6 1, 99, 0, 0, 0), (.goto (-47), 102, 0, 52, 0)]
abbrev bX11_sits_102 : List xE := [(.iload 5, 104, 0, 0, 0), (.ifCond .ne 6, 107, 0, 110, 0), (.goto 25, 110, 0, 132, 0)]
abbrev bX11_sits_110 : List xE := [(.aload_n 0, 111, 0, 0, 0), (.getfield 125, 114, 8, 55, 1), (.iload_n 1, 115, 0, 0, 0), (.iload 4, 117, 0, 0, 0), (.iastore, 118, 0, 0, 0), (.aload_n 0, 119, 0, 0, 0), (.iload_n 1, 120, 0, 0, 0), (.iconst 1, 121, 0, 0, 0), (.iadd, 122, 0, 0, 0), (.iload_n 2, 123, 0, 0, 0), (.iload_n 3, 124, 0, 0, 0), (.invokevirtual 427, 127, 0, 1, 9), (.ifCond .eq 5, 130, 0, 132, 0), (.iconst 1, 131, 0, 0, 0), (.ireturn, 132, 0, 0, 0)]
abbrev bX11_sits_132 : List xE := [(.iinc 4 1, 135, 0, 0, 0), (.goto (-95), 138, 0, 40, 0)]
abbrev bX11_sits_138 : List xE := [(.aload_n 0, 139, 0, 0, 0), (.getfield 125, 142, 8, 55, 1), (.iload_n 1, 143, 0, 0, 0), (.iconst (-1), 144, 0, 0, 0), (.iastore, 145, 0, 0, 0), (.iconst 0, 146, 0, 0, 0), (.ireturn, 147, 0, 0, 0)]
abbrev kX11_sits : List (Nat × List xE) := [(0, bX11_sits_0), (12, bX11_sits_12), (37, bX11_sits_37), (40, bX11_sits_40), (52, bX11_sits_52), (89, bX11_sits_89), (93, bX11_sits_93), (94, bX11_sits_94), (102, bX11_sits_102), (110, bX11_sits_110), (132, bX11_sits_132), (138, bX11_sits_138)]
abbrev lX11_sits (d : Nat) : List (Nat × Nat × Nat × xS) := [(2, 0, 0, S_X11_has), (4, 0, 0, (xm_this 8 (S_X11_sits d)))]
theorem oX11_sits_0 {Iv : xI} (hI : xm_good Iv) (d : Nat)  (ih_X11_sits : xm_Ct Iv yX11_sits (ws_ yX11_sits cX11_sits 7 (some .boolean)) (d + 9) 0 0 (S_X11_sits d)): xm_okb Iv RX11 cX11_sits false (d + 10) (lX11_sits d) bX11_sits_0 0 := xo_0 dX11_sits_0 rfl trivial (xo_0 dX11_sits_1 rfl trivial (xo_1 dX11_sits_2 rfl (xm_fg_of (Or.inl q1967) (by decide) rfl (by decide) rfl rfl (Or.inl rfl) rfl) (xo_0 dX11_sits_5 rfl trivial (xo_0 dX11_sits_6 rfl trivial (xo_0 dX11_sits_7 rfl rfl (xo_0 dX11_sits_10 rfl trivial (xo_0 dX11_sits_11 rfl trivial (xo_n))))))))
theorem oX11_sits_12 {Iv : xI} (hI : xm_good Iv) (d : Nat)  (ih_X11_sits : xm_Ct Iv yX11_sits (ws_ yX11_sits cX11_sits 7 (some .boolean)) (d + 9) 0 0 (S_X11_sits d)): xm_okb Iv RX11 cX11_sits false (d + 10) (lX11_sits d) bX11_sits_12 12 := xo_0 dX11_sits_12 rfl trivial (xo_1 dX11_sits_13 rfl (xm_fg_of (Or.inl q2010) (by decide) rfl (by decide) rfl rfl (Or.inl rfl) rfl) (xo_0 dX11_sits_16 rfl trivial (xo_0 dX11_sits_17 rfl trivial (xo_0 dX11_sits_18 rfl trivial (xo_0 dX11_sits_19 rfl trivial (xo_0 dX11_sits_20 rfl trivial (xo_c rfl (cv_X11_has hI dX11_sits_21 (Or.inl q1945) (by omega)) (xo_0 dX11_sits_24 rfl rfl (xo_0 dX11_sits_27 rfl trivial (xo_0 dX11_sits_28 rfl trivial (xo_0 dX11_sits_29 rfl trivial (xo_0 dX11_sits_30 rfl trivial (xo_0 dX11_sits_31 rfl trivial (xo_0 dX11_sits_32 rfl trivial (xo_c rfl (xm_callV 8 hI ih_X11_sits dX11_sits_33 (Or.inl q2536) q2538 qs110 q145 q2539 rfl rfl (by decide +kernel) (by omega) (by decide)) (xo_0 dX11_sits_36 rfl trivial (xo_n)))))))))))))))))
theorem oX11_sits_37 {Iv : xI} (hI : xm_good Iv) (d : Nat)  (ih_X11_sits : xm_Ct Iv yX11_sits (ws_ yX11_sits cX11_sits 7 (some .boolean)) (d + 9) 0 0 (S_X11_sits d)): xm_okb Iv RX11 cX11_sits false (d + 10) (lX11_sits d) bX11_sits_37 37 := xo_0 dX11_sits_37 rfl trivial (xo_0 dX11_sits_38 rfl trivial (xo_n))
theorem oX11_sits_40 {Iv : xI} (hI : xm_good Iv) (d : Nat)  (ih_X11_sits : xm_Ct Iv yX11_sits (ws_ yX11_sits cX11_sits 7 (some .boolean)) (d + 9) 0 0 (S_X11_sits d)): xm_okb Iv RX11 cX11_sits false (d + 10) (lX11_sits d) bX11_sits_40 40 := xo_0 dX11_sits_40 rfl trivial (xo_0 dX11_sits_42 rfl trivial (xo_0 dX11_sits_43 rfl rfl (xo_0 dX11_sits_46 rfl trivial (xo_0 dX11_sits_47 rfl trivial (xo_0 dX11_sits_49 rfl trivial (xo_0 dX11_sits_50 rfl trivial (xo_n)))))))
theorem oX11_sits_52 {Iv : xI} (hI : xm_good Iv) (d : Nat)  (ih_X11_sits : xm_Ct Iv yX11_sits (ws_ yX11_sits cX11_sits 7 (some .boolean)) (d + 9) 0 0 (S_X11_sits d)): xm_okb Iv RX11 cX11_sits false (d + 10) (lX11_sits d) bX11_sits_52 52 := xo_0 dX11_sits_52 rfl trivial (xo_0 dX11_sits_54 rfl trivial (xo_0 dX11_sits_55 rfl rfl (xo_0 dX11_sits_58 rfl trivial (xo_0 dX11_sits_60 rfl rfl (xo_0 dX11_sits_63 rfl trivial (xo_1 dX11_sits_64 rfl (xm_fg_of (Or.inl q1973) (by decide) rfl (by decide) rfl rfl (Or.inl rfl) rfl) (xo_0 dX11_sits_67 rfl trivial (xo_0 dX11_sits_68 rfl trivial (xo_0 dX11_sits_69 rfl trivial (xo_c rfl (cv_X11_has hI dX11_sits_71 (Or.inl q1945) (by omega)) (xo_0 dX11_sits_74 rfl rfl (xo_0 dX11_sits_77 rfl trivial (xo_1 dX11_sits_78 rfl (xm_fg_of (Or.inl q2010) (by decide) rfl (by decide) rfl rfl (Or.inl rfl) rfl) (xo_0 dX11_sits_81 rfl trivial (xo_0 dX11_sits_83 rfl trivial (xo_0 dX11_sits_84 rfl trivial (xo_0 dX11_sits_86 rfl rfl (xo_n))))))))))))))))))
theorem oX11_sits_89 {Iv : xI} (hI : xm_good Iv) (d : Nat)  (ih_X11_sits : xm_Ct Iv yX11_sits (ws_ yX11_sits cX11_sits 7 (some .boolean)) (d + 9) 0 0 (S_X11_sits d)): xm_okb Iv RX11 cX11_sits false (d + 10) (lX11_sits d) bX11_sits_89 89 := xo_0 dX11_sits_89 rfl trivial (xo_0 dX11_sits_90 rfl rfl (xo_n))
theorem oX11_sits_93 {Iv : xI} (hI : xm_good Iv) (d : Nat)  (ih_X11_sits : xm_Ct Iv yX11_sits (ws_ yX11_sits cX11_sits 7 (some .boolean)) (d + 9) 0 0 (S_X11_sits d)): xm_okb Iv RX11 cX11_sits false (d + 10) (lX11_sits d) bX11_sits_93 93 := xo_0 dX11_sits_93 rfl trivial (xo_n)
theorem oX11_sits_94 {Iv : xI} (hI : xm_good Iv) (d : Nat)  (ih_X11_sits : xm_Ct Iv yX11_sits (ws_ yX11_sits cX11_sits 7 (some .boolean)) (d + 9) 0 0 (S_X11_sits d)): xm_okb Iv RX11 cX11_sits false (d + 10) (lX11_sits d) bX11_sits_94 94 := xo_0 dX11_sits_94 rfl trivial (xo_0 dX11_sits_96 rfl trivial (xo_0 dX11_sits_99 rfl rfl (xo_n)))
theorem oX11_sits_102 {Iv : xI} (hI : xm_good Iv) (d : Nat)  (ih_X11_sits : xm_Ct Iv yX11_sits (ws_ yX11_sits cX11_sits 7 (some .boolean)) (d + 9) 0 0 (S_X11_sits d)): xm_okb Iv RX11 cX11_sits false (d + 10) (lX11_sits d) bX11_sits_102 102 := xo_0 dX11_sits_102 rfl trivial (xo_0 dX11_sits_104 rfl rfl (xo_0 dX11_sits_107 rfl rfl (xo_n)))
theorem oX11_sits_110 {Iv : xI} (hI : xm_good Iv) (d : Nat)  (ih_X11_sits : xm_Ct Iv yX11_sits (ws_ yX11_sits cX11_sits 7 (some .boolean)) (d + 9) 0 0 (S_X11_sits d)): xm_okb Iv RX11 cX11_sits false (d + 10) (lX11_sits d) bX11_sits_110 110 := xo_0 dX11_sits_110 rfl trivial (xo_1 dX11_sits_111 rfl (xm_fg_of (Or.inl q2010) (by decide) rfl (by decide) rfl rfl (Or.inl rfl) rfl) (xo_0 dX11_sits_114 rfl trivial (xo_0 dX11_sits_115 rfl trivial (xo_0 dX11_sits_117 rfl trivial (xo_0 dX11_sits_118 rfl trivial (xo_0 dX11_sits_119 rfl trivial (xo_0 dX11_sits_120 rfl trivial (xo_0 dX11_sits_121 rfl trivial (xo_0 dX11_sits_122 rfl trivial (xo_0 dX11_sits_123 rfl trivial (xo_c rfl (xm_callV 8 hI ih_X11_sits dX11_sits_124 (Or.inl q2536) q2538 qs110 q145 q2539 rfl rfl (by decide +kernel) (by omega) (by decide)) (xo_0 dX11_sits_127 rfl rfl (xo_0 dX11_sits_130 rfl trivial (xo_0 dX11_sits_131 rfl trivial (xo_n)))))))))))))))
theorem oX11_sits_132 {Iv : xI} (hI : xm_good Iv) (d : Nat)  (ih_X11_sits : xm_Ct Iv yX11_sits (ws_ yX11_sits cX11_sits 7 (some .boolean)) (d + 9) 0 0 (S_X11_sits d)): xm_okb Iv RX11 cX11_sits false (d + 10) (lX11_sits d) bX11_sits_132 132 := xo_0 dX11_sits_132 rfl trivial (xo_0 dX11_sits_135 rfl rfl (xo_n))
theorem oX11_sits_138 {Iv : xI} (hI : xm_good Iv) (d : Nat)  (ih_X11_sits : xm_Ct Iv yX11_sits (ws_ yX11_sits cX11_sits 7 (some .boolean)) (d + 9) 0 0 (S_X11_sits d)): xm_okb Iv RX11 cX11_sits false (d + 10) (lX11_sits d) bX11_sits_138 138 := xo_0 dX11_sits_138 rfl trivial (xo_1 dX11_sits_139 rfl (xm_fg_of (Or.inl q2010) (by decide) rfl (by decide) rfl rfl (Or.inl rfl) rfl) (xo_0 dX11_sits_142 rfl trivial (xo_0 dX11_sits_143 rfl trivial (xo_0 dX11_sits_144 rfl trivial (xo_0 dX11_sits_145 rfl trivial (xo_0 dX11_sits_146 rfl trivial (xo_n)))))))
theorem oX11_sits {Iv : xI} (hI : xm_good Iv) (d : Nat)  (ih_X11_sits : xm_Ct Iv yX11_sits (ws_ yX11_sits cX11_sits 7 (some .boolean)) (d + 9) 0 0 (S_X11_sits d)): ∀ q ∈ kX11_sits, xm_okb Iv RX11 cX11_sits false (d + 10) (lX11_sits d) q.2 q.1 := by
  intro q hq
  simp only [List.mem_cons, List.not_mem_nil, or_false] at hq
  rcases hq with rfl | rfl | rfl | rfl | rfl | rfl | rfl | rfl | rfl | rfl | rfl | rfl
  · exact oX11_sits_0 hI d  ih_X11_sits
  · exact oX11_sits_12 hI d  ih_X11_sits
  · exact oX11_sits_37 hI d  ih_X11_sits
  · exact oX11_sits_40 hI d  ih_X11_sits
  · exact oX11_sits_52 hI d  ih_X11_sits
  · exact oX11_sits_89 hI d  ih_X11_sits
  · exact oX11_sits_93 hI d  ih_X11_sits
  · exact oX11_sits_94 hI d  ih_X11_sits
  · exact oX11_sits_102 hI d  ih_X11_sits
  · exact oX11_sits_110 hI d  ih_X11_sits
  · exact oX11_sits_132 hI d  ih_X11_sits
  · exact oX11_sits_138 hI d  ih_X11_sits
theorem body_X11_sits (d : Nat) : xm_Body 7 1 0 0 [] (lX11_sits d) kX11_sits (S_X11_sits (d + 1)) := by
  intro X avs w Q QX hX0 hS
  have hG := xm_go [] hX0
  have hX := xm_go [40,52] hX0
  clear hX0
  obtain ⟨I, rfl, pre, many, rfl, hg, hmany, hh, hd, hpre, hQ⟩ := hS
  have hok := hg.1
  obtain ⟨hn, h9, hm, h8, -⟩ := id hok
  have eal : ∀ h, h < t_h I → t_has (g_alive (tK I) (tA I 36)) h = g_al (gGK (tG I)) (gnow (tG I)) h := fun h hh => by
    show t_has (t_or (t_h I) _) h = _
    rw [th_OR (by omega) (by omega), decide_eq_true hh, Bool.true_and]
    rfl
  have e12 : ∀ M, t_nt I M → M 12 = I 12 := fun M hM => hM 12 (by decide)
  -- one more hand seated
  have call : ∀ (v : Int32) (M : tI), pre.length < t_h I → t_nt I M → (∀ j, j < pre.length → M 55 j = pre.getD j (nI 0)) → M 55 pre.length = v →
      t_good M ∧ tG M = tG I ∧ tK M = tK I ∧ tA M 36 = tA I 36 ∧ t_h M = t_h I ∧ (∀ j, j < (pre ++ [v]).length → M 55 j = (pre ++ [v]).getD j (nI 0)) := by
    intro v M hlt hM hp hv
    refine ⟨hM.sp.good hg, hM.sp.G hg, hM.sp.same.K hg, tA_eq fun j _ => by rw [hM 36 (by decide)], t_h_eq (e12 M hM), fun j hj => ?_⟩
    rw [List.length_append] at hj
    rcases Nat.lt_or_ge j pre.length with q | q
    · rw [hp j q]
      simp [List.getD, List.getElem?_append_left q]
    · have e : j = pre.length := by simp at hj; omega
      subst e
      rw [hv]
      simp [List.getD]
  have sit : ∀ (d' : Nat) (v : Int32) (M : tI), d = d' + 1 → pre.length < t_h I → t_nt I M → (∀ j, j < pre.length → M 55 j = pre.getD j (nI 0)) → M 55 pre.length = v →
      [Value.ref 0, .int (nI pre.length + Int32.ofInt 1), .int (nI many), .int (g_alive (tK I) (tA I 36))] = [.ref 0, .int (nI (pre ++ [v]).length), .int (nI many), .int (g_alive (tK M) (tA M 36))] ∧ t_good M ∧ (pre ++ [v]).length ≤ t_h M ∧ t_h M - (pre ++ [v]).length ≤ d' ∧ (∀ j, j < (pre ++ [v]).length → M 55 j = (pre ++ [v]).getD j (nI 0)) ∧ tG M = tG I ∧ t_h M - (pre ++ [v]).length = t_h I - (pre.length + 1) ∧ t_h M = t_h I ∧ ∀ J, t_nt M J → (∀ j, j < (pre ++ [v]).length → J 55 j = M 55 j) → t_nt I J ∧ ∀ j, j < pre.length → J 55 j = pre.getD j (nI 0) := by
    intro d' v M hd' hlt hM hp hv
    obtain ⟨c1, c2, c3, c4, c5, c6⟩ := call v M hlt hM hp hv
    have el : (pre ++ [v]).length = pre.length + 1 := by rw [List.length_append]; rfl
    refine ⟨?_, c1, ?_, ?_, c6, c2, ?_, c5, fun J hJ hJp => ⟨hM.tr hJ, fun j hj => by rw [hJp j (by omega), hp j hj]⟩⟩
    · rw [el, c3, c4, xl_n.2.1, nI_add]
    · rw [c5, el]
      omega
    · rw [c5, el]
      omega
    · rw [c5, el]
  have l1 : pre.length < t_h I → g_al (gGK (tG I)) (gnow (tG I)) pre.length = true → ∀ n, n ≤ many → ∀ M o5 o6, t_nt I M → (∀ j, j < pre.length → M 55 j = pre.getD j (nI 0)) → ((o5 = none ∧ o6 = none) ∨ ∃ x y, o5 = some (.int x) ∧ o6 = some (.int y)) → g_1st (fun n => if g_seatok (tG I) pre (nI n) pre.length pre.length = true then g_seat (tG I) many (t_h I - (pre.length + 1)) (pre ++ [nI n]) else none) n = none → X 40 [some (.ref 0), some (.int (nI pre.length)), some (.int (nI many)), some (.int (g_alive (tK I) (tA I 36))), some (.int (nI n)), o5, o6] [] (tW M) 0 0 := by
    intro hlt hal
    obtain ⟨d', rfl⟩ : ∃ d', d = d' + 1 := ⟨d - 1, by omega⟩
    have eseat : g_seat (tG I) many (t_h I - pre.length) pre = g_1st (fun n => if g_seatok (tG I) pre (nI n) pre.length pre.length = true then g_seat (tG I) many (t_h I - (pre.length + 1)) (pre ++ [nI n]) else none) many := by
      rw [show t_h I - pre.length = (t_h I - (pre.length + 1)) + 1 by omega, g_seat_s, if_pos hal]
    refine t_for fun n h1 ih M o5 o6 hM hp ho hnone => ?_
    have nx := ih (n + 1) (by omega)
    clear ih
    have l2 : n < many → ∀ g, g ≤ pre.length → X 52 [some (.ref 0), some (.int (nI pre.length)), some (.int (nI many)), some (.int (g_alive (tK I) (tA I 36))), some (.int (nI n)), some (.int (t_b (g_seatok (tG I) pre (nI n) pre.length g))), some (.int (nI g))] [] (tW M) 0 0 := by
      intro hnm
      refine t_for fun g h1 ih => ?_
      have ih := ih (g + 1)
      have es : g_seatok (tG I) pre (nI n) pre.length (g + 1) = (g_seatok (tG I) pre (nI n) pre.length g && !(t_has (gsil (tG I) pre.length) g && decide (pre.getD g (nI 0) = nI n))) := rfl
      refine hG _ _ _ _ _ _ ?_
      (conv => whnf)
      repeat' (first
        | ((with_reducible refine @And.intro (vp_in _ _) _ ?_ ?_); (· (first | with_reducible assumption | ((with_reducible refine t_vin ?_); decide) | ((with_reducible refine vp_in_nI ?_ ?_) <;> first | omega | decide) | (simp (disch := omega) only [xl_n, xl_m, nI_dec, nI_sb, nI_add, pk_mul]; (with_reducible refine vp_in_nI ?_ ?_) <;> first | omega | decide))); (conv => whnf))
        | (refine And.intro (by first | with_reducible assumption | exact (show tL _ = _ from rfl) | decide) ?_; (conv => whnf))
        | ((with_reducible refine @And.intro (_ = _) _ ?_ ?_); (· rfl); (conv => whnf))
        | ((with_reducible refine @And.intro (@LE.le Nat _ _ _) _ ?_ ?_); (· (first | exact Nat.zero_le _ | exact Nat.le_of_ble_eq_true rfl | omega)); (conv => whnf))
        | ((with_reducible refine @And.intro (@LT.lt Nat _ _ _) _ ?_ ?_); (· omega); (conv => whnf))
        | ((with_reducible refine @And.intro (∃ _, _ = _) _ ?_ ?_); (· exact ⟨_, rfl⟩); (conv => whnf))
        | ((with_reducible refine @And.intro (_ ∨ _) _ ?_ ?_); (· (first | exact Or.inl rfl | exact Or.inr rfl | exact t_b01 _ | assumption)); (conv => whnf))
        | ((with_reducible refine @And.intro (¬ (_ = _)) _ ?_ ?_); (· first | assumption | (with_reducible assumption)); (conv => whnf))
        | (refine hX _ _ _ _ _ _ ?_; (conv => whnf); fail_if_success show False)
        | (rw [t_si]; (conv => whnf))
        | (refine ⟨_, rfl, ?_⟩; (conv => whnf))
        | (refine ⟨_, _, rfl, ?_⟩; (conv => whnf))
        | (refine ⟨_, _, _, rfl, ?_⟩; (conv => whnf))
        | (refine ⟨_, _, _, _, rfl, ?_⟩; (conv => whnf))
        | fail)
      refine And.intro (fun c => ?_) (fun c => ?_) <;> (conv => whnf)
      · have : g = pre.length := by
          have c' : nI pre.length ≤ nI g := c
          rw [nI_leI (by omega) (by omega)] at c'
          omega
        subst this
        clear ih es
        have hl9 : pre.length < 9 := by omega
        have e1 : g_1st (fun n => if g_seatok (tG I) pre (nI n) pre.length pre.length = true then g_seat (tG I) many (t_h I - (pre.length + 1)) (pre ++ [nI n]) else none) (n + 1) = if g_seatok (tG I) pre (nI n) pre.length pre.length = true then g_seat (tG I) many (t_h I - (pre.length + 1)) (pre ++ [nI n]) else none := by
          rw [g_1st_s, hnone]
        rw [e1] at nx
        repeat' (first
          | ((with_reducible refine @And.intro (vp_in _ _) _ ?_ ?_); (· (first | with_reducible assumption | ((with_reducible refine t_vin ?_); decide) | ((with_reducible refine vp_in_nI ?_ ?_) <;> first | omega | decide) | (simp (disch := omega) only [xl_n, xl_m, nI_dec, nI_sb, nI_add, pk_mul]; (with_reducible refine vp_in_nI ?_ ?_) <;> first | omega | decide))); (conv => whnf))
          | (refine And.intro (by first | with_reducible assumption | exact (show tL _ = _ from rfl) | decide) ?_; (conv => whnf))
          | ((with_reducible refine @And.intro (_ = _) _ ?_ ?_); (· rfl); (conv => whnf))
          | ((with_reducible refine @And.intro (@LE.le Nat _ _ _) _ ?_ ?_); (· (first | exact Nat.zero_le _ | exact Nat.le_of_ble_eq_true rfl | omega)); (conv => whnf))
          | ((with_reducible refine @And.intro (@LT.lt Nat _ _ _) _ ?_ ?_); (· omega); (conv => whnf))
          | ((with_reducible refine @And.intro (∃ _, _ = _) _ ?_ ?_); (· exact ⟨_, rfl⟩); (conv => whnf))
          | ((with_reducible refine @And.intro (_ ∨ _) _ ?_ ?_); (· (first | exact Or.inl rfl | exact Or.inr rfl | exact t_b01 _ | assumption)); (conv => whnf))
          | ((with_reducible refine @And.intro (¬ (_ = _)) _ ?_ ?_); (· first | assumption | (with_reducible assumption)); (conv => whnf))
          | (refine hX _ _ _ _ _ _ ?_; (conv => whnf); fail_if_success show False)
          | (rw [t_si]; (conv => whnf))
          | (refine ⟨_, rfl, ?_⟩; (conv => whnf))
          | (refine ⟨_, _, rfl, ?_⟩; (conv => whnf))
          | (refine ⟨_, _, _, rfl, ?_⟩; (conv => whnf))
          | (refine ⟨_, _, _, _, rfl, ?_⟩; (conv => whnf))
          | (refine And.intro (fun c => ?_) (fun c => ?_) <;> (first | (exact absurd c (by decide +kernel)) | (conv => whnf)))
          | fail)
        · have c' : ¬ t_b (g_seatok (tG I) pre (nI n) pre.length pre.length) = 0 := by assumption
          rw [t_b0, Bool.not_eq_false] at c'
          rw [c', if_pos rfl] at nx e1
          have hM2 : t_nt I (xm_u2 M 55 (nI pre.length).toNatClampNeg (nI n)) := hM.tr t_nt.u
          obtain ⟨s1, s2, s3, s4, s5, s6, s7, s8, s9⟩ := sit d' (nI n) (xm_u2 M 55 (nI pre.length).toNatClampNeg (nI n)) rfl hlt hM2 (fun j hj => by
            rw [nI_clamp (by omega), xm_u2_at, if_neg (by omega)]
            exact hp j hj) (by rw [nI_clamp (by omega), xm_u2_at, if_pos rfl])
          refine ⟨pre ++ [nI n], many, s1, s2, hmany, s3, s4, s5, fun J hJ hJp hJr => ?_⟩
          obtain ⟨hJ, hJp⟩ := s9 J hJ hJp
          rw [s6, s7, s8] at hJr
          rw [s6, s7]
          · cases er : g_seat (tG I) many (t_h I - (pre.length + 1)) (pre ++ [nI n]) with
            | none =>
              have := nx (by omega) J (some (.int (t_b (g_seatok (tG I) pre (nI n) pre.length pre.length)))) (some (.int (nI pre.length))) hJ hJp (Or.inr ⟨_, _, rfl, rfl⟩) er
              clear nx
              (conv => whnf)
              repeat' (first
                | ((with_reducible refine @And.intro (vp_in _ _) _ ?_ ?_); (· (first | with_reducible assumption | ((with_reducible refine t_vin ?_); decide) | ((with_reducible refine vp_in_nI ?_ ?_) <;> first | omega | decide) | (simp (disch := omega) only [xl_n, xl_m, nI_dec, nI_sb, nI_add, pk_mul]; (with_reducible refine vp_in_nI ?_ ?_) <;> first | omega | decide))); (conv => whnf))
                | (refine And.intro (by first | with_reducible assumption | exact (show tL _ = _ from rfl) | decide) ?_; (conv => whnf))
                | ((with_reducible refine @And.intro (_ = _) _ ?_ ?_); (· rfl); (conv => whnf))
                | ((with_reducible refine @And.intro (@LE.le Nat _ _ _) _ ?_ ?_); (· (first | exact Nat.zero_le _ | exact Nat.le_of_ble_eq_true rfl | omega)); (conv => whnf))
                | ((with_reducible refine @And.intro (@LT.lt Nat _ _ _) _ ?_ ?_); (· omega); (conv => whnf))
                | ((with_reducible refine @And.intro (∃ _, _ = _) _ ?_ ?_); (· exact ⟨_, rfl⟩); (conv => whnf))
                | ((with_reducible refine @And.intro (_ ∨ _) _ ?_ ?_); (· (first | exact Or.inl rfl | exact Or.inr rfl | exact t_b01 _ | assumption)); (conv => whnf))
                | ((with_reducible refine @And.intro (¬ (_ = _)) _ ?_ ?_); (· first | assumption | (with_reducible assumption)); (conv => whnf))
                | (refine hX _ _ _ _ _ _ ?_; (conv => whnf); fail_if_success show False)
                | (rw [t_si]; (conv => whnf))
                | (refine ⟨_, rfl, ?_⟩; (conv => whnf))
                | (refine ⟨_, _, rfl, ?_⟩; (conv => whnf))
                | (refine ⟨_, _, _, rfl, ?_⟩; (conv => whnf))
                | (refine ⟨_, _, _, _, rfl, ?_⟩; (conv => whnf))
                | (refine And.intro (fun c => ?_) (fun c => ?_) <;> (first | (exact absurd c (by decide +kernel)) | (conv => whnf)))
                | fail)
              clear hX hG hQ
              simp (disch := omega) only [xl_n, xl_m, nI_dec, nI_sb, xl_0, xl_1, tW_i, t_bn0, t_bn1, Classical.not_not, t_lt, nI_add, nI_1, pk_mul, nI_clamp, t_si, nI_eq, nI_leI, nM_ne, nM_ne, xm_set, xm_lv0, xm_psh] at *
              exact this
            | some r =>
              have ef := g_1st_mono (e1.trans er) (show n + 1 ≤ many by omega)
              rw [← eseat] at ef
              rw [ef] at hQ
              have hQ := hQ J hJ (fun j hj => by rw [hJp j hj, hpre j hj]) (fun r' hr' => by cases hr'; exact hJr r er)
              clear nx
              (conv => whnf)
              repeat' (first
                | ((with_reducible refine @And.intro (vp_in _ _) _ ?_ ?_); (· (first | with_reducible assumption | ((with_reducible refine t_vin ?_); decide) | ((with_reducible refine vp_in_nI ?_ ?_) <;> first | omega | decide) | (simp (disch := omega) only [xl_n, xl_m, nI_dec, nI_sb, nI_add, pk_mul]; (with_reducible refine vp_in_nI ?_ ?_) <;> first | omega | decide))); (conv => whnf))
                | (refine And.intro (by first | with_reducible assumption | exact (show tL _ = _ from rfl) | decide) ?_; (conv => whnf))
                | ((with_reducible refine @And.intro (_ = _) _ ?_ ?_); (· rfl); (conv => whnf))
                | ((with_reducible refine @And.intro (@LE.le Nat _ _ _) _ ?_ ?_); (· (first | exact Nat.zero_le _ | exact Nat.le_of_ble_eq_true rfl | omega)); (conv => whnf))
                | ((with_reducible refine @And.intro (@LT.lt Nat _ _ _) _ ?_ ?_); (· omega); (conv => whnf))
                | ((with_reducible refine @And.intro (∃ _, _ = _) _ ?_ ?_); (· exact ⟨_, rfl⟩); (conv => whnf))
                | ((with_reducible refine @And.intro (_ ∨ _) _ ?_ ?_); (· (first | exact Or.inl rfl | exact Or.inr rfl | exact t_b01 _ | assumption)); (conv => whnf))
                | ((with_reducible refine @And.intro (¬ (_ = _)) _ ?_ ?_); (· first | assumption | (with_reducible assumption)); (conv => whnf))
                | (refine hX _ _ _ _ _ _ ?_; (conv => whnf); fail_if_success show False)
                | (rw [t_si]; (conv => whnf))
                | (refine ⟨_, rfl, ?_⟩; (conv => whnf))
                | (refine ⟨_, _, rfl, ?_⟩; (conv => whnf))
                | (refine ⟨_, _, _, rfl, ?_⟩; (conv => whnf))
                | (refine ⟨_, _, _, _, rfl, ?_⟩; (conv => whnf))
                | (refine And.intro (fun c => ?_) (fun c => ?_) <;> (first | (exact absurd c (by decide +kernel)) | (conv => whnf)))
                | fail)
              · exact absurd (show t_b true = 0 by assumption) (by decide +kernel)
              · exact hQ
        · have c' : t_b (g_seatok (tG I) pre (nI n) pre.length pre.length) = 0 := Classical.not_not.mp (by assumption)
          rw [t_b0] at c'
          rw [c', if_neg (by decide)] at nx
          have := nx (by omega) M (some (.int (t_b (g_seatok (tG I) pre (nI n) pre.length pre.length)))) (some (.int (nI pre.length))) hM hp (Or.inr ⟨_, _, rfl, rfl⟩) rfl
          clear hX hG hQ nx
          simp (disch := omega) only [xl_n, xl_m, nI_dec, nI_sb, xl_0, xl_1, tW_i, t_bn0, t_bn1, Classical.not_not, t_lt, nI_add, nI_1, pk_mul, nI_clamp, t_si, nI_eq, nI_leI, nM_ne, nM_ne, xm_set, xm_lv0, xm_psh] at *
          exact this
      · have hgl : g < pre.length := by
          have c' : ¬ nI pre.length ≤ nI g := c
          rw [nI_leI (by omega) (by omega)] at c'
          omega
        have v55 := hp g hgl
        have ih := ih (by omega) (by omega)
        rw [es] at ih
        have e18 : M 18 pre.length = gsil (tG I) pre.length := by
          rw [hM 18 (by decide)]
          exact (if_pos (show pre.length < 9 by omega)).symm
        have hl9 : pre.length < 9 := by omega
        repeat' (first
          | ((with_reducible refine @And.intro (vp_in _ _) _ ?_ ?_); (· (first | with_reducible assumption | ((with_reducible refine t_vin ?_); decide) | ((with_reducible refine vp_in_nI ?_ ?_) <;> first | omega | decide) | (simp (disch := omega) only [xl_n, xl_m, nI_dec, nI_sb, nI_add, pk_mul]; (with_reducible refine vp_in_nI ?_ ?_) <;> first | omega | decide))); (conv => whnf))
          | (refine And.intro (by first | with_reducible assumption | exact (show tL _ = _ from rfl) | decide) ?_; (conv => whnf))
          | ((with_reducible refine @And.intro (_ = _) _ ?_ ?_); (· rfl); (conv => whnf))
          | ((with_reducible refine @And.intro (@LE.le Nat _ _ _) _ ?_ ?_); (· (first | exact Nat.zero_le _ | exact Nat.le_of_ble_eq_true rfl | omega)); (conv => whnf))
          | ((with_reducible refine @And.intro (@LT.lt Nat _ _ _) _ ?_ ?_); (· omega); (conv => whnf))
          | ((with_reducible refine @And.intro (∃ _, _ = _) _ ?_ ?_); (· exact ⟨_, rfl⟩); (conv => whnf))
          | ((with_reducible refine @And.intro (_ ∨ _) _ ?_ ?_); (· (first | exact Or.inl rfl | exact Or.inr rfl | exact t_b01 _ | assumption)); (conv => whnf))
          | ((with_reducible refine @And.intro (¬ (_ = _)) _ ?_ ?_); (· first | assumption | (with_reducible assumption)); (conv => whnf))
          | (refine hX _ _ _ _ _ _ ?_; (conv => whnf); fail_if_success show False)
          | (rw [t_si]; (conv => whnf))
          | (refine ⟨_, rfl, ?_⟩; (conv => whnf))
          | (refine ⟨_, _, rfl, ?_⟩; (conv => whnf))
          | (refine ⟨_, _, _, rfl, ?_⟩; (conv => whnf))
          | (refine ⟨_, _, _, _, rfl, ?_⟩; (conv => whnf))
          | (refine And.intro (fun c => ?_) (fun c => ?_) <;> (first | (exact absurd c (by decide +kernel)) | (conv => whnf)))
          | fail)
        · have c1 : t_b (g_seatok (tG I) pre (nI n) pre.length g) = 0 := by assumption
          rw [t_b0] at c1
          rw [c1, Bool.false_and] at ih
          clear hX hG hQ
          simp (disch := omega) only [xl_n, xl_m, nI_dec, nI_sb, xl_0, xl_1, tW_i, t_bn0, t_bn1, Classical.not_not, t_lt, nI_add, nI_1, pk_mul, nI_clamp, t_si, nI_eq, nI_leI, nM_ne, nM_ne, xm_set, xm_lv0, xm_psh] at *
          exact ih
        · have c1 : ¬ t_b (g_seatok (tG I) pre (nI n) pre.length g) = 0 := by assumption
          have c2 : t_b (t_has (M 18 (nI pre.length).toNatClampNeg) g) = 0 := by assumption
          rw [t_b0, Bool.not_eq_false] at c1
          rw [nI_clamp (by omega), e18, t_b0] at c2
          rw [c1, c2, Bool.false_and] at ih
          clear hX hG hQ
          simp (disch := omega) only [xl_n, xl_m, nI_dec, nI_sb, xl_0, xl_1, tW_i, t_bn0, t_bn1, Classical.not_not, t_lt, nI_add, nI_1, pk_mul, nI_clamp, t_si, nI_eq, nI_leI, nM_ne, nM_ne, xm_set, xm_lv0, xm_psh] at *
          exact ih
        · have c1 : ¬ t_b (g_seatok (tG I) pre (nI n) pre.length g) = 0 := by assumption
          have c2 : ¬ t_b (t_has (M 18 (nI pre.length).toNatClampNeg) g) = 0 := by assumption
          have c3 : M 55 (nI g).toNatClampNeg = nI n := by assumption
          rw [t_b0, Bool.not_eq_false] at c1
          rw [nI_clamp (by omega), e18, t_b0, Bool.not_eq_false] at c2
          rw [nI_clamp (by omega), v55] at c3
          rw [c1, c2, decide_eq_true c3] at ih
          clear hX hG hQ
          simp (disch := omega) only [xl_n, xl_m, nI_dec, nI_sb, xl_0, xl_1, tW_i, t_bn0, t_bn1, Classical.not_not, t_lt, nI_add, nI_1, pk_mul, nI_clamp, t_si, nI_eq, nI_leI, nM_ne, nM_ne, xm_set, xm_lv0, xm_psh] at *
          exact ih
        · have c1 : ¬ t_b (g_seatok (tG I) pre (nI n) pre.length g) = 0 := by assumption
          have c2 : ¬ t_b (t_has (M 18 (nI pre.length).toNatClampNeg) g) = 0 := by assumption
          have c3 : ¬ M 55 (nI g).toNatClampNeg = nI n := by assumption
          rw [t_b0, Bool.not_eq_false] at c1
          rw [nI_clamp (by omega), e18, t_b0, Bool.not_eq_false] at c2
          rw [nI_clamp (by omega), v55] at c3
          rw [c1, c2, decide_eq_false c3] at ih
          clear hX hG hQ
          simp (disch := omega) only [xl_n, xl_m, nI_dec, nI_sb, xl_0, xl_1, tW_i, t_bn0, t_bn1, Classical.not_not, t_lt, nI_add, nI_1, pk_mul, nI_clamp, t_si, nI_eq, nI_leI, nM_ne, nM_ne, xm_set, xm_lv0, xm_psh] at *
          exact ih
    have hl9 : pre.length < 9 := by omega
    rcases ho with ⟨rfl, rfl⟩ | ⟨x, y, rfl, rfl⟩
    all_goals
      refine hG _ _ _ _ _ _ ?_
      (conv => whnf)
      repeat' (first
        | ((with_reducible refine @And.intro (vp_in _ _) _ ?_ ?_); (· (first | with_reducible assumption | ((with_reducible refine t_vin ?_); decide) | ((with_reducible refine vp_in_nI ?_ ?_) <;> first | omega | decide) | (simp (disch := omega) only [xl_n, xl_m, nI_dec, nI_sb, nI_add, pk_mul]; (with_reducible refine vp_in_nI ?_ ?_) <;> first | omega | decide))); (conv => whnf))
        | (refine And.intro (by first | with_reducible assumption | exact (show tL _ = _ from rfl) | decide) ?_; (conv => whnf))
        | ((with_reducible refine @And.intro (_ = _) _ ?_ ?_); (· rfl); (conv => whnf))
        | ((with_reducible refine @And.intro (@LE.le Nat _ _ _) _ ?_ ?_); (· (first | exact Nat.zero_le _ | exact Nat.le_of_ble_eq_true rfl | omega)); (conv => whnf))
        | ((with_reducible refine @And.intro (@LT.lt Nat _ _ _) _ ?_ ?_); (· omega); (conv => whnf))
        | ((with_reducible refine @And.intro (∃ _, _ = _) _ ?_ ?_); (· exact ⟨_, rfl⟩); (conv => whnf))
        | ((with_reducible refine @And.intro (_ ∨ _) _ ?_ ?_); (· (first | exact Or.inl rfl | exact Or.inr rfl | exact t_b01 _ | assumption)); (conv => whnf))
        | ((with_reducible refine @And.intro (¬ (_ = _)) _ ?_ ?_); (· first | assumption | (with_reducible assumption)); (conv => whnf))
        | (refine hX _ _ _ _ _ _ ?_; (conv => whnf); fail_if_success show False)
        | (rw [t_si]; (conv => whnf))
        | (refine ⟨_, rfl, ?_⟩; (conv => whnf))
        | (refine ⟨_, _, rfl, ?_⟩; (conv => whnf))
        | (refine ⟨_, _, _, rfl, ?_⟩; (conv => whnf))
        | (refine ⟨_, _, _, _, rfl, ?_⟩; (conv => whnf))
        | fail)
      refine And.intro (fun c => ?_) (fun c => ?_) <;> (conv => whnf)
      · have e : n = many := by
          have c' : nI many ≤ nI n := c
          rw [nI_leI (by omega) (by omega)] at c'
          omega
        rw [e, ← eseat] at hnone
        rw [hnone] at hQ
        clear nx l2
        repeat' (first
          | ((with_reducible refine @And.intro (vp_in _ _) _ ?_ ?_); (· (first | with_reducible assumption | ((with_reducible refine t_vin ?_); decide) | ((with_reducible refine vp_in_nI ?_ ?_) <;> first | omega | decide) | (simp (disch := omega) only [xl_n, xl_m, nI_dec, nI_sb, nI_add, pk_mul]; (with_reducible refine vp_in_nI ?_ ?_) <;> first | omega | decide))); (conv => whnf))
          | (refine And.intro (by first | with_reducible assumption | exact (show tL _ = _ from rfl) | decide) ?_; (conv => whnf))
          | ((with_reducible refine @And.intro (_ = _) _ ?_ ?_); (· rfl); (conv => whnf))
          | ((with_reducible refine @And.intro (@LE.le Nat _ _ _) _ ?_ ?_); (· (first | exact Nat.zero_le _ | exact Nat.le_of_ble_eq_true rfl | omega)); (conv => whnf))
          | ((with_reducible refine @And.intro (@LT.lt Nat _ _ _) _ ?_ ?_); (· omega); (conv => whnf))
          | ((with_reducible refine @And.intro (∃ _, _ = _) _ ?_ ?_); (· exact ⟨_, rfl⟩); (conv => whnf))
          | ((with_reducible refine @And.intro (_ ∨ _) _ ?_ ?_); (· (first | exact Or.inl rfl | exact Or.inr rfl | exact t_b01 _ | assumption)); (conv => whnf))
          | ((with_reducible refine @And.intro (¬ (_ = _)) _ ?_ ?_); (· first | assumption | (with_reducible assumption)); (conv => whnf))
          | (refine hX _ _ _ _ _ _ ?_; (conv => whnf); fail_if_success show False)
          | (rw [t_si]; (conv => whnf))
          | (refine ⟨_, rfl, ?_⟩; (conv => whnf))
          | (refine ⟨_, _, rfl, ?_⟩; (conv => whnf))
          | (refine ⟨_, _, _, rfl, ?_⟩; (conv => whnf))
          | (refine ⟨_, _, _, _, rfl, ?_⟩; (conv => whnf))
          | (refine And.intro (fun c => ?_) (fun c => ?_) <;> (first | (exact absurd c (by decide +kernel)) | (conv => whnf)))
          | fail)
        refine hQ _ (hM.tr t_nt.u) (fun j hj => ?_) (fun r hr => by cases hr)
        show xm_u2 M 55 (nI pre.length).toNatClampNeg (Int32.ofInt (-1)) 55 j = _
        rw [nI_clamp (by omega), xm_u2_at, if_neg (by omega), hp j hj, hpre j hj]
      · have hnm : n < many := by
          have c' : ¬ nI many ≤ nI n := c
          rw [nI_leI (by omega) (by omega)] at c'
          omega
        have := l2 hnm 0 (Nat.zero_le _)
        clear nx l2
        repeat' (first
          | ((with_reducible refine @And.intro (vp_in _ _) _ ?_ ?_); (· (first | with_reducible assumption | ((with_reducible refine t_vin ?_); decide) | ((with_reducible refine vp_in_nI ?_ ?_) <;> first | omega | decide) | (simp (disch := omega) only [xl_n, xl_m, nI_dec, nI_sb, nI_add, pk_mul]; (with_reducible refine vp_in_nI ?_ ?_) <;> first | omega | decide))); (conv => whnf))
          | (refine And.intro (by first | with_reducible assumption | exact (show tL _ = _ from rfl) | decide) ?_; (conv => whnf))
          | ((with_reducible refine @And.intro (_ = _) _ ?_ ?_); (· rfl); (conv => whnf))
          | ((with_reducible refine @And.intro (@LE.le Nat _ _ _) _ ?_ ?_); (· (first | exact Nat.zero_le _ | exact Nat.le_of_ble_eq_true rfl | omega)); (conv => whnf))
          | ((with_reducible refine @And.intro (@LT.lt Nat _ _ _) _ ?_ ?_); (· omega); (conv => whnf))
          | ((with_reducible refine @And.intro (∃ _, _ = _) _ ?_ ?_); (· exact ⟨_, rfl⟩); (conv => whnf))
          | ((with_reducible refine @And.intro (_ ∨ _) _ ?_ ?_); (· (first | exact Or.inl rfl | exact Or.inr rfl | exact t_b01 _ | assumption)); (conv => whnf))
          | ((with_reducible refine @And.intro (¬ (_ = _)) _ ?_ ?_); (· first | assumption | (with_reducible assumption)); (conv => whnf))
          | (refine hX _ _ _ _ _ _ ?_; (conv => whnf); fail_if_success show False)
          | (rw [t_si]; (conv => whnf))
          | (refine ⟨_, rfl, ?_⟩; (conv => whnf))
          | (refine ⟨_, _, rfl, ?_⟩; (conv => whnf))
          | (refine ⟨_, _, _, rfl, ?_⟩; (conv => whnf))
          | (refine ⟨_, _, _, _, rfl, ?_⟩; (conv => whnf))
          | (refine And.intro (fun c => ?_) (fun c => ?_) <;> (first | (exact absurd c (by decide +kernel)) | (conv => whnf)))
          | fail)
        clear hX hG hQ
        simp (disch := omega) only [xl_n, xl_m, nI_dec, nI_sb, xl_0, xl_1, tW_i, t_bn0, t_bn1, Classical.not_not, t_lt, nI_add, nI_1, pk_mul, nI_clamp, t_si, nI_eq, nI_leI, nM_ne, nM_ne, xm_set, xm_lv0, xm_psh] at *
        exact this
  refine ⟨rfl, ?_⟩
  by_cases hlt : pre.length < t_h I
  · obtain ⟨d', rfl⟩ : ∃ d', d = d' + 1 := ⟨d - 1, by omega⟩
    have hl9 : pre.length < 9 := by omega
    have ne : ¬ nI pre.length = I 12 0 := by
      rw [hn, nI_eq (by omega) (by omega)]
      omega
    have hM2 : t_nt I (xm_u2 I 55 (nI pre.length).toNatClampNeg (Int32.ofInt (-1))) := t_nt.u
    have hp2 : ∀ j, j < pre.length → xm_u2 I 55 (nI pre.length).toNatClampNeg (Int32.ofInt (-1)) 55 j = pre.getD j (nI 0) := fun j hj => by
      rw [nI_clamp (by omega), xm_u2_at, if_neg (by omega)]
      exact hpre j hj
    have hv2 : xm_u2 I 55 (nI pre.length).toNatClampNeg (Int32.ofInt (-1)) 55 pre.length = nM := by
      rw [nI_clamp (by omega), xm_u2_at, if_pos rfl]
      exact xl_m
    have eal := eal pre.length hlt
    repeat' (first
      | ((with_reducible refine @And.intro (vp_in _ _) _ ?_ ?_); (· (first | with_reducible assumption | ((with_reducible refine t_vin ?_); decide) | ((with_reducible refine vp_in_nI ?_ ?_) <;> first | omega | decide) | (simp (disch := omega) only [xl_n, xl_m, nI_dec, nI_sb, nI_add, pk_mul]; (with_reducible refine vp_in_nI ?_ ?_) <;> first | omega | decide))); (conv => whnf))
      | (refine And.intro (by first | with_reducible assumption | exact (show tL _ = _ from rfl) | decide) ?_; (conv => whnf))
      | ((with_reducible refine @And.intro (_ = _) _ ?_ ?_); (· rfl); (conv => whnf))
      | ((with_reducible refine @And.intro (@LE.le Nat _ _ _) _ ?_ ?_); (· (first | exact Nat.zero_le _ | exact Nat.le_of_ble_eq_true rfl | omega)); (conv => whnf))
      | ((with_reducible refine @And.intro (@LT.lt Nat _ _ _) _ ?_ ?_); (· omega); (conv => whnf))
      | ((with_reducible refine @And.intro (∃ _, _ = _) _ ?_ ?_); (· exact ⟨_, rfl⟩); (conv => whnf))
      | ((with_reducible refine @And.intro (_ ∨ _) _ ?_ ?_); (· (first | exact Or.inl rfl | exact Or.inr rfl | exact t_b01 _ | assumption)); (conv => whnf))
      | ((with_reducible refine @And.intro (¬ (_ = _)) _ ?_ ?_); (· first | assumption | (with_reducible assumption)); (conv => whnf))
      | (refine hX _ _ _ _ _ _ ?_; (conv => whnf); fail_if_success show False)
      | (rw [t_si]; (conv => whnf))
      | (refine ⟨_, rfl, ?_⟩; (conv => whnf))
      | (refine ⟨_, _, rfl, ?_⟩; (conv => whnf))
      | (refine ⟨_, _, _, rfl, ?_⟩; (conv => whnf))
      | (refine ⟨_, _, _, _, rfl, ?_⟩; (conv => whnf))
      | (refine And.intro (fun c => ?_) (fun c => ?_) <;> (first | (exact absurd c (by decide +kernel)) | (conv => whnf)))
      | fail)
    · have c' : ¬ t_b (t_has (g_alive (tK I) (tA I 36)) pre.length) = 0 := by assumption
      rw [t_b0, Bool.not_eq_false, eal] at c'
      have := l1 hlt c' 0 (Nat.zero_le _) _ none none hM2 hp2 (Or.inl ⟨rfl, rfl⟩) rfl
      clear l1 sit call hX hG hQ
      exact this
    · have c' : t_b (t_has (g_alive (tK I) (tA I 36)) pre.length) = 0 := Classical.not_not.mp (by assumption)
      rw [t_b0, eal] at c'
      rw [show t_h I - pre.length = (t_h I - (pre.length + 1)) + 1 by omega, g_seat_s, if_neg (by rw [c']; decide)] at hQ
      obtain ⟨s1, s2, s3, s4, s5, s6, s7, s8, s9⟩ := sit d' nM (xm_u2 I 55 (nI pre.length).toNatClampNeg (Int32.ofInt (-1))) rfl hlt hM2 hp2 hv2
      refine ⟨pre ++ [nM], many, s1, s2, hmany, s3, s4, s5, fun J hJ hJp hJr => ?_⟩
      obtain ⟨hJ, hJp⟩ := s9 J hJ hJp
      rw [s6, s7, s8] at hJr
      rw [s6, s7]
      have hQ := hQ J hJ (fun j hj => by rw [hJp j hj, hpre j hj]) hJr
      clear l1 sit call
      (conv => whnf)
      repeat' (first
        | ((with_reducible refine @And.intro (vp_in _ _) _ ?_ ?_); (· (first | with_reducible assumption | ((with_reducible refine t_vin ?_); decide) | ((with_reducible refine vp_in_nI ?_ ?_) <;> first | omega | decide) | (simp (disch := omega) only [xl_n, xl_m, nI_dec, nI_sb, nI_add, pk_mul]; (with_reducible refine vp_in_nI ?_ ?_) <;> first | omega | decide))); (conv => whnf))
        | (refine And.intro (by first | with_reducible assumption | exact (show tL _ = _ from rfl) | decide) ?_; (conv => whnf))
        | ((with_reducible refine @And.intro (_ = _) _ ?_ ?_); (· rfl); (conv => whnf))
        | ((with_reducible refine @And.intro (@LE.le Nat _ _ _) _ ?_ ?_); (· (first | exact Nat.zero_le _ | exact Nat.le_of_ble_eq_true rfl | omega)); (conv => whnf))
        | ((with_reducible refine @And.intro (@LT.lt Nat _ _ _) _ ?_ ?_); (· omega); (conv => whnf))
        | ((with_reducible refine @And.intro (∃ _, _ = _) _ ?_ ?_); (· exact ⟨_, rfl⟩); (conv => whnf))
        | ((with_reducible refine @And.intro (_ ∨ _) _ ?_ ?_); (· (first | exact Or.inl rfl | exact Or.inr rfl | exact t_b01 _ | assumption)); (conv => whnf))
        | ((with_reducible refine @And.intro (¬ (_ = _)) _ ?_ ?_); (· first | assumption | (with_reducible assumption)); (conv => whnf))
        | (refine hX _ _ _ _ _ _ ?_; (conv => whnf); fail_if_success show False)
        | (rw [t_si]; (conv => whnf))
        | (refine ⟨_, rfl, ?_⟩; (conv => whnf))
        | (refine ⟨_, _, rfl, ?_⟩; (conv => whnf))
        | (refine ⟨_, _, _, rfl, ?_⟩; (conv => whnf))
        | (refine ⟨_, _, _, _, rfl, ?_⟩; (conv => whnf))
        | (refine And.intro (fun c => ?_) (fun c => ?_) <;> (first | (exact absurd c (by decide +kernel)) | (conv => whnf)))
        | fail)
      exact hQ
    · exact absurd (Classical.not_not.mp (by assumption)) ne
  · have e : pre.length = t_h I := by omega
    have ne : nI pre.length = I 12 0 := by rw [hn, e]
    clear l1 sit call
    repeat' (first
      | ((with_reducible refine @And.intro (vp_in _ _) _ ?_ ?_); (· (first | with_reducible assumption | ((with_reducible refine t_vin ?_); decide) | ((with_reducible refine vp_in_nI ?_ ?_) <;> first | omega | decide) | (simp (disch := omega) only [xl_n, xl_m, nI_dec, nI_sb, nI_add, pk_mul]; (with_reducible refine vp_in_nI ?_ ?_) <;> first | omega | decide))); (conv => whnf))
      | (refine And.intro (by first | with_reducible assumption | exact (show tL _ = _ from rfl) | decide) ?_; (conv => whnf))
      | ((with_reducible refine @And.intro (_ = _) _ ?_ ?_); (· rfl); (conv => whnf))
      | ((with_reducible refine @And.intro (@LE.le Nat _ _ _) _ ?_ ?_); (· (first | exact Nat.zero_le _ | exact Nat.le_of_ble_eq_true rfl | omega)); (conv => whnf))
      | ((with_reducible refine @And.intro (@LT.lt Nat _ _ _) _ ?_ ?_); (· omega); (conv => whnf))
      | ((with_reducible refine @And.intro (∃ _, _ = _) _ ?_ ?_); (· exact ⟨_, rfl⟩); (conv => whnf))
      | ((with_reducible refine @And.intro (_ ∨ _) _ ?_ ?_); (· (first | exact Or.inl rfl | exact Or.inr rfl | exact t_b01 _ | assumption)); (conv => whnf))
      | ((with_reducible refine @And.intro (¬ (_ = _)) _ ?_ ?_); (· first | assumption | (with_reducible assumption)); (conv => whnf))
      | (refine hX _ _ _ _ _ _ ?_; (conv => whnf); fail_if_success show False)
      | (rw [t_si]; (conv => whnf))
      | (refine ⟨_, rfl, ?_⟩; (conv => whnf))
      | (refine ⟨_, _, rfl, ?_⟩; (conv => whnf))
      | (refine ⟨_, _, _, rfl, ?_⟩; (conv => whnf))
      | (refine ⟨_, _, _, _, rfl, ?_⟩; (conv => whnf))
      | (refine And.intro (fun c => ?_) (fun c => ?_) <;> (first | (exact absurd c (by decide +kernel)) | (conv => whnf)))
      | fail)
    · exact absurd ne (by assumption)
    · rw [show t_h I - pre.length = 0 by omega] at hQ
      exact hQ I (fun _ _ => rfl) (fun _ _ => rfl) (fun r hr j hj => by
        cases hr
        exact hpre j (by omega))
theorem ct_X11_sits {Iv : xI} (hI : xm_good Iv) : ∀ d, xm_Ct Iv yX11_sits (ws_ yX11_sits cX11_sits 7 (some .boolean)) (d + 9) 0 0 (S_X11_sits d)
  | 0 => xm_ct0
  | d + 1 => xm_enter (rt := 1) (init := false) (by decide +kernel) rfl (fun h => by cases h) (Or.inr (Or.inl ⟨rfl, Or.inl rfl⟩)) (oX11_sits hI d (ct_X11_sits hI d)) (body_X11_sits d)
theorem cv_X11_sits {Iv : xI} {own : String} {cc : ByteArray} {fr pc idx : Nat} (hI : xm_good Iv) (hdg : decode cc pc = .ok (.invokevirtual idx, 3)) (hl : xm_ml own idx yX11_sits) (hfr : 20 < fr) : xm_CallOK Iv own cc fr pc (pc + 3) 4 0 0 (xm_this 8 (S_X11_sits 11)) := xm_callV 8 hI (ct_X11_sits hI 11) hdg hl q2538 qs110 q145 q2539 rfl rfl (by decide +kernel) hfr (by decide)
/-- the least number of nights -/
def g_ntF (G : gG) : Nat → Nat → Nat
  | 0, m => m
  | f + 1, m => if (g_seat G m (gn (gGK G)) []).isSome = true then m else g_ntF G f (m + 1)
theorem g_ntF_s {G : gG} {f m : Nat} : g_ntF G (f + 1) m = if (g_seat G m (gn (gGK G)) []).isSome = true then m else g_ntF G f (m + 1) := rfl
def g_nt (G : gG) : Nat := g_ntF G (gn (gGK G)) 0
theorem t_nt.rf {I : tI} : t_nt I I := fun _ _ => rfl
abbrev bX11_nightsNow_0 : List xE := [(.iconst 0, 1, 0, 0, 0), (.istore_n 1, 2, 0, 0, 0), (.aload_n 0, 3, 0, 0, 0), (.aload_n 0, 4, 0, 0, 0), (.getfield 91, 7, 8, 36, 1), (.invokevirtual 324, 10, 0, 0, 9), (.istore_n 2, 11, 0, 0, 0)]
abbrev bX11_nightsNow_11 : List xE := [(.aload_n 0, 12, 0, 0, 0), (.iconst 0, 13, 0, 0, 0), (.iload_n 1, 14, 0, 0, 0), (.iload_n 2, 15, 0, 0, 0), (.invokevirtual 427, 18, 0, 1, 9), (.ifCond .ne 9, 21, 0, 27, 0), (.iinc 1 1, 24, 0, 0, 0), (.goto (-13), 27, 0, 11, 0)]
abbrev bX11_nightsNow_27 : List xE := [(.iload_n 1, 28, 0, 0, 0), (.ireturn, 29, 0, 0, 0)]
abbrev kX11_nightsNow : List (Nat × List xE) := [(0, bX11_nightsNow_0), (11, bX11_nightsNow_11), (27, bX11_nightsNow_27)]
abbrev lX11_nightsNow : List (Nat × Nat × Nat × xS) := [(2, 0, 0, xm_this 8 S_X11_aliveOf), (4, 0, 0, xm_this 8 (S_X11_sits 11))]
theorem oX11_nightsNow_0 {Iv : xI} (hI : xm_good Iv)  : xm_okb Iv RX11 cX11_nightsNow false 21 lX11_nightsNow bX11_nightsNow_0 0 := xo_0 dX11_nightsNow_0 rfl trivial (xo_0 dX11_nightsNow_1 rfl trivial (xo_0 dX11_nightsNow_2 rfl trivial (xo_0 dX11_nightsNow_3 rfl trivial (xo_1 dX11_nightsNow_4 rfl (xm_fg_of (Or.inl q1991) (by decide) rfl (by decide) rfl rfl (Or.inl rfl) rfl) (xo_c rfl (cv_X11_aliveOf hI dX11_nightsNow_7 (Or.inl q2288) (by decide)) (xo_0 dX11_nightsNow_10 rfl trivial (xo_n)))))))
theorem oX11_nightsNow_11 {Iv : xI} (hI : xm_good Iv)  : xm_okb Iv RX11 cX11_nightsNow false 21 lX11_nightsNow bX11_nightsNow_11 11 := xo_0 dX11_nightsNow_11 rfl trivial (xo_0 dX11_nightsNow_12 rfl trivial (xo_0 dX11_nightsNow_13 rfl trivial (xo_0 dX11_nightsNow_14 rfl trivial (xo_c rfl (cv_X11_sits hI dX11_nightsNow_15 (Or.inl q2536) (by decide)) (xo_0 dX11_nightsNow_18 rfl rfl (xo_0 dX11_nightsNow_21 rfl trivial (xo_0 dX11_nightsNow_24 rfl rfl (xo_n))))))))
theorem oX11_nightsNow_27 {Iv : xI} (hI : xm_good Iv)  : xm_okb Iv RX11 cX11_nightsNow false 21 lX11_nightsNow bX11_nightsNow_27 27 := xo_0 dX11_nightsNow_27 rfl trivial (xo_0 dX11_nightsNow_28 rfl trivial (xo_n))
theorem oX11_nightsNow {Iv : xI} (hI : xm_good Iv)  : ∀ q ∈ kX11_nightsNow, xm_okb Iv RX11 cX11_nightsNow false 21 lX11_nightsNow q.2 q.1 := by
  intro q hq
  simp only [List.mem_cons, List.not_mem_nil, or_false] at hq
  rcases hq with rfl | rfl | rfl
  · exact oX11_nightsNow_0 hI  
  · exact oX11_nightsNow_11 hI  
  · exact oX11_nightsNow_27 hI  
def S_X11_nightsNow : xS := tU fun as I Q => as = [.ref 0] ∧ t_good I ∧ ∀ J, t_nt I J → (∀ r, g_seat (tG I) (g_nt (tG I)) (t_h I) [] = some r → ∀ j, j < t_h I → J 55 j = r.getD j (nI 0)) → g_seat (tG I) (g_nt (tG I)) (t_h I) [] ≠ none → Q (some (.int (nI (g_nt (tG I))))) J
theorem body_X11_nightsNow : xm_Body 3 0 0 0 [] lX11_nightsNow kX11_nightsNow S_X11_nightsNow := by
  intro X avs w Q QX hX0 hS
  have hG := xm_go [] hX0
  have hX := xm_go [11] hX0
  clear hX0
  obtain ⟨I, rfl, rfl, hg, hQ⟩ := hS
  have hok := hg.1
  obtain ⟨hn, h9, hm, h8, -⟩ := id hok
  have loop : ∀ m, m ≤ t_h I → ∀ M, t_nt I M → g_ntF (tG I) (t_h I - m) m = g_nt (tG I) → X 11 [some (.ref 0), some (.int (nI m)), some (.int (g_alive (tK I) (tA I 36)))] [] (tW M) 0 0 := by
    refine t_for fun m h1 ih M hM hN => ?_
    have nx := ih (m + 1) (by omega)
    clear ih
    have hgM := hM.sp.good hg
    have eG : tG M = tG I := hM.sp.G hg
    have eK : tK M = tK I := hM.sp.same.K hg
    have eA : tA M 36 = tA I 36 := tA_eq fun j _ => by rw [hM 36 (by decide)]
    have eh : t_h M = t_h I := t_h_eq (hM 12 (by decide))
    refine hG _ _ _ _ _ _ ?_
    (conv => whnf)
    repeat' (first
      | ((with_reducible refine @And.intro (vp_in _ _) _ ?_ ?_); (· (first | with_reducible assumption | ((with_reducible refine t_vin ?_); decide) | ((with_reducible refine vp_in_nI ?_ ?_) <;> first | omega | decide) | (simp (disch := omega) only [xl_n, xl_m, nI_dec, nI_sb, nI_add, pk_mul]; (with_reducible refine vp_in_nI ?_ ?_) <;> first | omega | decide))); (conv => whnf))
      | (refine And.intro (by first | with_reducible assumption | exact (show tL _ = _ from rfl) | decide) ?_; (conv => whnf))
      | ((with_reducible refine @And.intro (_ = _) _ ?_ ?_); (· rfl); (conv => whnf))
      | ((with_reducible refine @And.intro (@LE.le Nat _ _ _) _ ?_ ?_); (· (first | exact Nat.zero_le _ | exact Nat.le_of_ble_eq_true rfl | omega)); (conv => whnf))
      | ((with_reducible refine @And.intro (@LT.lt Nat _ _ _) _ ?_ ?_); (· omega); (conv => whnf))
      | ((with_reducible refine @And.intro (∃ _, _ = _) _ ?_ ?_); (· exact ⟨_, rfl⟩); (conv => whnf))
      | ((with_reducible refine @And.intro (_ ∨ _) _ ?_ ?_); (· (first | exact Or.inl rfl | exact Or.inr rfl | exact t_b01 _ | assumption)); (conv => whnf))
      | ((with_reducible refine @And.intro (¬ (_ = _)) _ ?_ ?_); (· first | assumption | (with_reducible assumption)); (conv => whnf))
      | (refine hX _ _ _ _ _ _ ?_; (conv => whnf); fail_if_success show False)
      | (rw [t_si]; (conv => whnf))
      | (refine ⟨_, rfl, ?_⟩; (conv => whnf))
      | (refine ⟨_, _, rfl, ?_⟩; (conv => whnf))
      | (refine ⟨_, _, _, rfl, ?_⟩; (conv => whnf))
      | (refine ⟨_, _, _, _, rfl, ?_⟩; (conv => whnf))
      | (refine And.intro (fun c => ?_) (fun c => ?_) <;> (first | (exact absurd c (by decide +kernel)) | (conv => whnf)))
      | fail)
    refine ⟨[], m, ?_, hgM, by omega, Nat.zero_le _, ?_, (fun j hj => by simp at hj), fun J hJ _ hJr => ?_⟩
    · rw [eK, eA]
      rfl
    · rw [eh]
      show t_h I - 0 ≤ 10
      omega
    · rw [eG, eh] at hJr
      rw [eG, eh]
      have hJr : ∀ r, g_seat (tG I) m (t_h I) [] = some r → ∀ j, j < t_h I → J 55 j = r.getD j (nI 0) := hJr
      show xm_vc _ _ _ _ (xm_psh (some (.int (t_b (g_seat (tG I) m (t_h I) []).isSome))) _) (tW J) _ _
      cases er : g_seat (tG I) m (t_h I) [] with
      | none =>
        have hlt : m < t_h I := by
          rcases Nat.lt_or_ge m (t_h I) with q | q
          · exact q
          · exact absurd er (g_seat_some (by omega) (t_h I) [] (by show 0 + t_h I ≤ m; omega))
        have ef : g_ntF (tG I) (t_h I - m) m = g_ntF (tG I) (t_h I - (m + 1)) (m + 1) := by
          rw [show t_h I - m = (t_h I - (m + 1)) + 1 by omega, g_ntF_s]
          show (if (g_seat (tG I) m (t_h I) []).isSome = true then _ else _) = _
          rw [er]
          rfl
        have := nx (by omega) J (hM.tr hJ) (ef.symm.trans hN)
        clear nx
        (conv => whnf)
        repeat' (first
          | ((with_reducible refine @And.intro (vp_in _ _) _ ?_ ?_); (· (first | with_reducible assumption | ((with_reducible refine t_vin ?_); decide) | ((with_reducible refine vp_in_nI ?_ ?_) <;> first | omega | decide) | (simp (disch := omega) only [xl_n, xl_m, nI_dec, nI_sb, nI_add, pk_mul]; (with_reducible refine vp_in_nI ?_ ?_) <;> first | omega | decide))); (conv => whnf))
          | (refine And.intro (by first | with_reducible assumption | exact (show tL _ = _ from rfl) | decide) ?_; (conv => whnf))
          | ((with_reducible refine @And.intro (_ = _) _ ?_ ?_); (· rfl); (conv => whnf))
          | ((with_reducible refine @And.intro (@LE.le Nat _ _ _) _ ?_ ?_); (· (first | exact Nat.zero_le _ | exact Nat.le_of_ble_eq_true rfl | omega)); (conv => whnf))
          | ((with_reducible refine @And.intro (@LT.lt Nat _ _ _) _ ?_ ?_); (· omega); (conv => whnf))
          | ((with_reducible refine @And.intro (∃ _, _ = _) _ ?_ ?_); (· exact ⟨_, rfl⟩); (conv => whnf))
          | ((with_reducible refine @And.intro (_ ∨ _) _ ?_ ?_); (· (first | exact Or.inl rfl | exact Or.inr rfl | exact t_b01 _ | assumption)); (conv => whnf))
          | ((with_reducible refine @And.intro (¬ (_ = _)) _ ?_ ?_); (· first | assumption | (with_reducible assumption)); (conv => whnf))
          | (refine hX _ _ _ _ _ _ ?_; (conv => whnf); fail_if_success show False)
          | (rw [t_si]; (conv => whnf))
          | (refine ⟨_, rfl, ?_⟩; (conv => whnf))
          | (refine ⟨_, _, rfl, ?_⟩; (conv => whnf))
          | (refine ⟨_, _, _, rfl, ?_⟩; (conv => whnf))
          | (refine ⟨_, _, _, _, rfl, ?_⟩; (conv => whnf))
          | (refine And.intro (fun c => ?_) (fun c => ?_) <;> (first | (exact absurd c (by decide +kernel)) | (conv => whnf)))
          | fail)
        clear hX hG hQ
        simp (disch := omega) only [xl_n, xl_m, nI_dec, nI_sb, xl_0, xl_1, tW_i, t_bn0, t_bn1, Classical.not_not, t_lt, nI_add, nI_1, pk_mul, nI_clamp, t_si, nI_eq, nI_leI, nM_ne, nM_ne, xm_set, xm_lv0, xm_psh] at *
        exact this
      | some r =>
        have ef : g_nt (tG I) = m := by
          rw [← hN]
          cases e : t_h I - m with
          | zero => rfl
          | succ f =>
            rw [g_ntF_s]
            show (if (g_seat (tG I) m (t_h I) []).isSome = true then _ else _) = _
            rw [er]
            rfl
        rw [ef, er] at hQ
        have hQ := hQ J (hM.tr hJ) (fun r' hr' => by cases hr'; exact hJr r er) (fun z => by cases z)
        clear nx
        (conv => whnf)
        repeat' (first
          | ((with_reducible refine @And.intro (vp_in _ _) _ ?_ ?_); (· (first | with_reducible assumption | ((with_reducible refine t_vin ?_); decide) | ((with_reducible refine vp_in_nI ?_ ?_) <;> first | omega | decide) | (simp (disch := omega) only [xl_n, xl_m, nI_dec, nI_sb, nI_add, pk_mul]; (with_reducible refine vp_in_nI ?_ ?_) <;> first | omega | decide))); (conv => whnf))
          | (refine And.intro (by first | with_reducible assumption | exact (show tL _ = _ from rfl) | decide) ?_; (conv => whnf))
          | ((with_reducible refine @And.intro (_ = _) _ ?_ ?_); (· rfl); (conv => whnf))
          | ((with_reducible refine @And.intro (@LE.le Nat _ _ _) _ ?_ ?_); (· (first | exact Nat.zero_le _ | exact Nat.le_of_ble_eq_true rfl | omega)); (conv => whnf))
          | ((with_reducible refine @And.intro (@LT.lt Nat _ _ _) _ ?_ ?_); (· omega); (conv => whnf))
          | ((with_reducible refine @And.intro (∃ _, _ = _) _ ?_ ?_); (· exact ⟨_, rfl⟩); (conv => whnf))
          | ((with_reducible refine @And.intro (_ ∨ _) _ ?_ ?_); (· (first | exact Or.inl rfl | exact Or.inr rfl | exact t_b01 _ | assumption)); (conv => whnf))
          | ((with_reducible refine @And.intro (¬ (_ = _)) _ ?_ ?_); (· first | assumption | (with_reducible assumption)); (conv => whnf))
          | (refine hX _ _ _ _ _ _ ?_; (conv => whnf); fail_if_success show False)
          | (rw [t_si]; (conv => whnf))
          | (refine ⟨_, rfl, ?_⟩; (conv => whnf))
          | (refine ⟨_, _, rfl, ?_⟩; (conv => whnf))
          | (refine ⟨_, _, _, rfl, ?_⟩; (conv => whnf))
          | (refine ⟨_, _, _, _, rfl, ?_⟩; (conv => whnf))
          | (refine And.intro (fun c => ?_) (fun c => ?_) <;> (first | (exact absurd c (by decide +kernel)) | (conv => whnf)))
          | fail)
        · exact hQ
        · exact absurd (show t_b true = 0 from Classical.not_not.mp (by assumption)) (by decide +kernel)
  refine ⟨rfl, ?_⟩
  repeat' (first
    | ((with_reducible refine @And.intro (vp_in _ _) _ ?_ ?_); (· (first | with_reducible assumption | ((with_reducible refine t_vin ?_); decide) | ((with_reducible refine vp_in_nI ?_ ?_) <;> first | omega | decide) | (simp (disch := omega) only [xl_n, xl_m, nI_dec, nI_sb, nI_add, pk_mul]; (with_reducible refine vp_in_nI ?_ ?_) <;> first | omega | decide))); (conv => whnf))
    | (refine And.intro (by first | with_reducible assumption | exact (show tL _ = _ from rfl) | decide) ?_; (conv => whnf))
    | ((with_reducible refine @And.intro (_ = _) _ ?_ ?_); (· rfl); (conv => whnf))
    | ((with_reducible refine @And.intro (@LE.le Nat _ _ _) _ ?_ ?_); (· (first | exact Nat.zero_le _ | exact Nat.le_of_ble_eq_true rfl | omega)); (conv => whnf))
    | ((with_reducible refine @And.intro (@LT.lt Nat _ _ _) _ ?_ ?_); (· omega); (conv => whnf))
    | ((with_reducible refine @And.intro (∃ _, _ = _) _ ?_ ?_); (· exact ⟨_, rfl⟩); (conv => whnf))
    | ((with_reducible refine @And.intro (_ ∨ _) _ ?_ ?_); (· (first | exact Or.inl rfl | exact Or.inr rfl | exact t_b01 _ | assumption)); (conv => whnf))
    | ((with_reducible refine @And.intro (¬ (_ = _)) _ ?_ ?_); (· first | assumption | (with_reducible assumption)); (conv => whnf))
    | (refine hX _ _ _ _ _ _ ?_; (conv => whnf); fail_if_success show False)
    | (rw [t_si]; (conv => whnf))
    | (refine ⟨_, rfl, ?_⟩; (conv => whnf))
    | (refine ⟨_, _, rfl, ?_⟩; (conv => whnf))
    | (refine ⟨_, _, _, rfl, ?_⟩; (conv => whnf))
    | (refine ⟨_, _, _, _, rfl, ?_⟩; (conv => whnf))
    | (refine And.intro (fun c => ?_) (fun c => ?_) <;> (first | (exact absurd c (by decide +kernel)) | (conv => whnf)))
    | fail)
  exact loop 0 (Nat.zero_le _) I t_nt.rf rfl
theorem ct_X11_nightsNow {Iv : xI} (hI : xm_good Iv) : xm_Ct Iv yX11_nightsNow (ws_ yX11_nightsNow cX11_nightsNow 3 (some .int)) 21 0 0 S_X11_nightsNow := xm_enter (rt := 0) (init := false) (by decide +kernel) rfl (fun h => by cases h) (Or.inl ⟨rfl, rfl⟩) (oX11_nightsNow hI) body_X11_nightsNow
theorem cv_X11_nightsNow {Iv : xI} {own : String} {cc : ByteArray} {fr pc idx : Nat} (hI : xm_good Iv) (hdg : decode cc pc = .ok (.invokevirtual idx, 3)) (hl : xm_ml own idx yX11_nightsNow) (hfr : 21 < fr) : xm_CallOK Iv own cc fr pc (pc + 3) 1 0 0 (xm_this 8 S_X11_nightsNow) := xm_callV 8 hI (ct_X11_nightsNow hI) hdg hl q2534 qs109 q145 q2535 rfl rfl (by decide +kernel) hfr (by decide)
def q_nights (G : gG) : gR := g_says G (nI (g_nt G))
abbrev bX11_nights_0 : List xE := [(.aload_n 0, 1, 0, 0, 0), (.iconst 0, 2, 0, 0, 0), (.putfield 134, 5, 8, 0, 0), (.aload_n 0, 6, 0, 0, 0), (.invokevirtual 430, 9, 0, 0, 9), (.ireturn, 10, 0, 0, 0)]
abbrev kX11_nights : List (Nat × List xE) := [(0, bX11_nights_0)]
abbrev lX11_nights : List (Nat × Nat × Nat × xS) := [(1, 0, 0, xm_this 8 S_X11_nightsNow)]
theorem oX11_nights_0 {Iv : xI} (hI : xm_good Iv)  : xm_okb Iv RX11 cX11_nights false 22 lX11_nights bX11_nights_0 0 := xo_0 dX11_nights_0 rfl trivial (xo_0 dX11_nights_1 rfl trivial (xo_0 dX11_nights_2 rfl (xm_fp_of (xm_fg_of (Or.inl q1955) (by decide) rfl (by decide) rfl rfl (Or.inl rfl) rfl) (by decide) rfl (Or.inl ⟨rfl, rfl⟩) rfl) (xo_0 dX11_nights_5 rfl trivial (xo_c rfl (cv_X11_nightsNow hI dX11_nights_6 (Or.inl q2532) (by decide)) (xo_0 dX11_nights_9 rfl trivial (xo_n))))))
theorem oX11_nights {Iv : xI} (hI : xm_good Iv)  : ∀ q ∈ kX11_nights, xm_okb Iv RX11 cX11_nights false 22 lX11_nights q.2 q.1 := by
  intro q hq
  simp only [List.mem_cons, List.not_mem_nil, or_false] at hq
  subst hq
  exact oX11_nights_0 hI  
def S_X11_nights : xS := tU fun as I Q => as = [.ref 0] ∧ t_good I ∧ t_P Q (q_nights (tG I))
theorem body_X11_nights : xm_Body 1 0 0 0 [] lX11_nights kX11_nights S_X11_nights := by
  intro X avs w Q QX hX0 hS
  have hG := xm_go [] hX0
  have hX := xm_go [] hX0
  clear hX0
  obtain ⟨I, rfl, rfl, hg, hQ⟩ := hS
  refine ⟨rfl, ?_⟩
  repeat' (first
    | ((with_reducible refine @And.intro (vp_in _ _) _ ?_ ?_); (· (first | with_reducible assumption | ((with_reducible refine t_vin ?_); decide) | ((with_reducible refine vp_in_nI ?_ ?_) <;> first | omega | decide) | (simp (disch := omega) only [xl_n, xl_m, nI_dec, nI_sb, nI_add, pk_mul]; (with_reducible refine vp_in_nI ?_ ?_) <;> first | omega | decide))); (conv => whnf))
    | (refine And.intro (by first | with_reducible assumption | exact (show tL _ = _ from rfl) | decide) ?_; (conv => whnf))
    | ((with_reducible refine @And.intro (_ = _) _ ?_ ?_); (· rfl); (conv => whnf))
    | ((with_reducible refine @And.intro (@LE.le Nat _ _ _) _ ?_ ?_); (· (first | exact Nat.zero_le _ | exact Nat.le_of_ble_eq_true rfl | omega)); (conv => whnf))
    | ((with_reducible refine @And.intro (@LT.lt Nat _ _ _) _ ?_ ?_); (· omega); (conv => whnf))
    | ((with_reducible refine @And.intro (∃ _, _ = _) _ ?_ ?_); (· exact ⟨_, rfl⟩); (conv => whnf))
    | ((with_reducible refine @And.intro (_ ∨ _) _ ?_ ?_); (· (first | exact Or.inl rfl | exact Or.inr rfl | exact t_b01 _ | assumption)); (conv => whnf))
    | ((with_reducible refine @And.intro (¬ (_ = _)) _ ?_ ?_); (· first | assumption | (with_reducible assumption)); (conv => whnf))
    | (refine hX _ _ _ _ _ _ ?_; (conv => whnf); fail_if_success show False)
    | fail)
  rw [t_si]
  obtain ⟨J, hJ, hg1, hG1, h01⟩ := t_pub hg
  rw [← hJ]
  rw [← hG1] at hQ
  clear hJ hG1 hg I
  have hg := hg1
  have hok := hg.1
  have hl := hg.2.1
  have h8 := hok.2.2.2.1
  have h9 := hok.2.1
  (conv => whnf)
  repeat' (first
    | ((with_reducible refine @And.intro (vp_in _ _) _ ?_ ?_); (· (first | with_reducible assumption | ((with_reducible refine t_vin ?_); decide) | ((with_reducible refine vp_in_nI ?_ ?_) <;> first | omega | decide) | (simp (disch := omega) only [xl_n, xl_m, nI_dec, nI_sb, nI_add, pk_mul]; (with_reducible refine vp_in_nI ?_ ?_) <;> first | omega | decide))); (conv => whnf))
    | (refine And.intro (by first | with_reducible assumption | exact (show tL _ = _ from rfl) | decide) ?_; (conv => whnf))
    | ((with_reducible refine @And.intro (_ = _) _ ?_ ?_); (· rfl); (conv => whnf))
    | ((with_reducible refine @And.intro (@LE.le Nat _ _ _) _ ?_ ?_); (· (first | exact Nat.zero_le _ | exact Nat.le_of_ble_eq_true rfl | omega)); (conv => whnf))
    | ((with_reducible refine @And.intro (@LT.lt Nat _ _ _) _ ?_ ?_); (· omega); (conv => whnf))
    | ((with_reducible refine @And.intro (∃ _, _ = _) _ ?_ ?_); (· exact ⟨_, rfl⟩); (conv => whnf))
    | ((with_reducible refine @And.intro (_ ∨ _) _ ?_ ?_); (· (first | exact Or.inl rfl | exact Or.inr rfl | exact t_b01 _ | assumption)); (conv => whnf))
    | ((with_reducible refine @And.intro (¬ (_ = _)) _ ?_ ?_); (· first | assumption | (with_reducible assumption)); (conv => whnf))
    | (refine hX _ _ _ _ _ _ ?_; (conv => whnf); fail_if_success show False)
    | (rw [t_si]; (conv => whnf))
    | (refine ⟨_, rfl, ?_⟩; (conv => whnf))
    | (refine ⟨_, _, rfl, ?_⟩; (conv => whnf))
    | (refine ⟨_, _, _, rfl, ?_⟩; (conv => whnf))
    | (refine ⟨_, _, _, _, rfl, ?_⟩; (conv => whnf))
    | (refine And.intro (fun c => ?_) (fun c => ?_) <;> (first | (exact absurd c (by decide +kernel)) | (conv => whnf)))
    | fail)
  intro M hM _ _
  (conv => whnf)
  repeat' (first
    | ((with_reducible refine @And.intro (vp_in _ _) _ ?_ ?_); (· (first | with_reducible assumption | ((with_reducible refine t_vin ?_); decide) | ((with_reducible refine vp_in_nI ?_ ?_) <;> first | omega | decide) | (simp (disch := omega) only [xl_n, xl_m, nI_dec, nI_sb, nI_add, pk_mul]; (with_reducible refine vp_in_nI ?_ ?_) <;> first | omega | decide))); (conv => whnf))
    | (refine And.intro (by first | with_reducible assumption | exact (show tL _ = _ from rfl) | decide) ?_; (conv => whnf))
    | ((with_reducible refine @And.intro (_ = _) _ ?_ ?_); (· rfl); (conv => whnf))
    | ((with_reducible refine @And.intro (@LE.le Nat _ _ _) _ ?_ ?_); (· (first | exact Nat.zero_le _ | exact Nat.le_of_ble_eq_true rfl | omega)); (conv => whnf))
    | ((with_reducible refine @And.intro (@LT.lt Nat _ _ _) _ ?_ ?_); (· omega); (conv => whnf))
    | ((with_reducible refine @And.intro (∃ _, _ = _) _ ?_ ?_); (· exact ⟨_, rfl⟩); (conv => whnf))
    | ((with_reducible refine @And.intro (_ ∨ _) _ ?_ ?_); (· (first | exact Or.inl rfl | exact Or.inr rfl | exact t_b01 _ | assumption)); (conv => whnf))
    | ((with_reducible refine @And.intro (¬ (_ = _)) _ ?_ ?_); (· first | assumption | (with_reducible assumption)); (conv => whnf))
    | (refine hX _ _ _ _ _ _ ?_; (conv => whnf); fail_if_success show False)
    | (rw [t_si]; (conv => whnf))
    | (refine ⟨_, rfl, ?_⟩; (conv => whnf))
    | (refine ⟨_, _, rfl, ?_⟩; (conv => whnf))
    | (refine ⟨_, _, _, rfl, ?_⟩; (conv => whnf))
    | (refine ⟨_, _, _, _, rfl, ?_⟩; (conv => whnf))
    | (refine And.intro (fun c => ?_) (fun c => ?_) <;> (first | (exact absurd c (by decide +kernel)) | (conv => whnf)))
    | fail)
  exact t_ask hQ hg hM.sp ((congrFun (hM 0 (by decide)) 0).trans h01) rfl
theorem ct_X11_nights {Iv : xI} (hI : xm_good Iv) : xm_Ct Iv yX11_nights (ws_ yX11_nights cX11_nights 1 (some .int)) 22 0 0 S_X11_nights := xm_enter (rt := 0) (init := false) (by decide +kernel) rfl (fun h => by cases h) (Or.inl ⟨rfl, rfl⟩) (oX11_nights hI) body_X11_nights
theorem cv_X11_nights {Iv : xI} {own : String} {cc : ByteArray} {fr pc idx : Nat} (hI : xm_good Iv) (hdg : decode cc pc = .ok (.invokevirtual idx, 3)) (hl : xm_ml own idx yX11_nights) (hfr : 22 < fr) : xm_CallOK Iv own cc fr pc (pc + 3) 1 0 0 (xm_this 8 S_X11_nights) := xm_callV 8 hI (ct_X11_nights hI) hdg hl q2529 q2530 q145 q2531 rfl rfl (by decide +kernel) hfr (by decide)
def q_night (G : gG) (a : Int32) : gR := g_ck G (g_isH G a) (nI 1) 0 (g_says G (((g_seat G (g_nt G) (gn (gGK G)) []).getD []).getD a.toNatClampNeg (nI 0)))
abbrev bX11_night_0 : List xE := [(.aload_n 0, 1, 0, 0, 0), (.iconst 0, 2, 0, 0, 0), (.putfield 134, 5, 8, 0, 0), (.aload_n 0, 6, 0, 0, 0), (.aload_n 0, 7, 0, 0, 0), (.iload_n 1, 8, 0, 0, 0), (.invokevirtual 331, 11, 0, 0, 9), (.ifCond .ne 7, 14, 0, 18, 0), (.iconst 1, 15, 0, 0, 0), (.goto 4, 18, 0, 19, 0)]
abbrev bX11_night_18 : List xE := [(.iconst 0, 19, 0, 0, 0)]
abbrev bX11_night_19 : List xE := [(.iconst 1, 20, 0, 0, 0), (.iconst 0, 21, 0, 0, 0), (.invokevirtual 249, 24, 0, 1, 9), (.ifCond .eq 5, 27, 0, 29, 0), (.iconst 0, 28, 0, 0, 0), (.ireturn, 29, 0, 0, 0)]
abbrev bX11_night_29 : List xE := [(.aload_n 0, 30, 0, 0, 0), (.invokevirtual 430, 33, 0, 2, 9), (.pop, 34, 0, 0, 0), (.aload_n 0, 35, 0, 0, 0), (.getfield 125, 38, 8, 55, 1), (.iload_n 1, 39, 0, 0, 0), (.iaload, 40, 0, 0, 0), (.ireturn, 41, 0, 0, 0)]
abbrev kX11_night : List (Nat × List xE) := [(0, bX11_night_0), (18, bX11_night_18), (19, bX11_night_19), (29, bX11_night_29)]
abbrev lX11_night : List (Nat × Nat × Nat × xS) := [(2, 0, 0, xm_this 8 S_X11_isHand), (4, 0, 0, xm_this 8 S_X11_bad), (1, 0, 0, xm_this 8 S_X11_nightsNow)]
theorem oX11_night_0 {Iv : xI} (hI : xm_good Iv)  : xm_okb Iv RX11 cX11_night false 22 lX11_night bX11_night_0 0 := xo_0 dX11_night_0 rfl trivial (xo_0 dX11_night_1 rfl trivial (xo_0 dX11_night_2 rfl (xm_fp_of (xm_fg_of (Or.inl q1955) (by decide) rfl (by decide) rfl rfl (Or.inl rfl) rfl) (by decide) rfl (Or.inl ⟨rfl, rfl⟩) rfl) (xo_0 dX11_night_5 rfl trivial (xo_0 dX11_night_6 rfl trivial (xo_0 dX11_night_7 rfl trivial (xo_c rfl (cv_X11_isHand hI dX11_night_8 (Or.inl q2304) (by decide)) (xo_0 dX11_night_11 rfl rfl (xo_0 dX11_night_14 rfl trivial (xo_0 dX11_night_15 rfl rfl (xo_n))))))))))
theorem oX11_night_18 {Iv : xI} (hI : xm_good Iv)  : xm_okb Iv RX11 cX11_night false 22 lX11_night bX11_night_18 18 := xo_0 dX11_night_18 rfl trivial (xo_n)
theorem oX11_night_19 {Iv : xI} (hI : xm_good Iv)  : xm_okb Iv RX11 cX11_night false 22 lX11_night bX11_night_19 19 := xo_0 dX11_night_19 rfl trivial (xo_0 dX11_night_20 rfl trivial (xo_c rfl (cv_X11_bad hI dX11_night_21 (Or.inl q2137) (by decide)) (xo_0 dX11_night_24 rfl rfl (xo_0 dX11_night_27 rfl trivial (xo_0 dX11_night_28 rfl trivial (xo_n))))))
theorem oX11_night_29 {Iv : xI} (hI : xm_good Iv)  : xm_okb Iv RX11 cX11_night false 22 lX11_night bX11_night_29 29 := xo_0 dX11_night_29 rfl trivial (xo_c rfl (cv_X11_nightsNow hI dX11_night_30 (Or.inl q2532) (by decide)) (xo_0 dX11_night_33 rfl trivial (xo_0 dX11_night_34 rfl trivial (xo_1 dX11_night_35 rfl (xm_fg_of (Or.inl q2010) (by decide) rfl (by decide) rfl rfl (Or.inl rfl) rfl) (xo_0 dX11_night_38 rfl trivial (xo_0 dX11_night_39 rfl trivial (xo_0 dX11_night_40 rfl trivial (xo_n))))))))
theorem oX11_night {Iv : xI} (hI : xm_good Iv)  : ∀ q ∈ kX11_night, xm_okb Iv RX11 cX11_night false 22 lX11_night q.2 q.1 := by
  intro q hq
  simp only [List.mem_cons, List.not_mem_nil, or_false] at hq
  rcases hq with rfl | rfl | rfl | rfl
  · exact oX11_night_0 hI  
  · exact oX11_night_18 hI  
  · exact oX11_night_19 hI  
  · exact oX11_night_29 hI  
def S_X11_night : xS := tU fun as I Q => ∃ a, as = [.ref 0, .int a] ∧ t_good I ∧ t_P Q (q_night (tG I) a)
theorem body_X11_night : xm_Body 2 0 0 0 [] lX11_night kX11_night S_X11_night := by
  intro X avs w Q QX hX0 hS
  have hG := xm_go [] hX0
  have hX := xm_go [] hX0
  clear hX0
  obtain ⟨I, rfl, a, rfl, hg, hQ⟩ := hS
  refine ⟨rfl, ?_⟩
  repeat' (first
    | ((with_reducible refine @And.intro (vp_in _ _) _ ?_ ?_); (· (first | with_reducible assumption | ((with_reducible refine t_vin ?_); decide) | ((with_reducible refine vp_in_nI ?_ ?_) <;> first | omega | decide) | (simp (disch := omega) only [xl_n, xl_m, nI_dec, nI_sb, nI_add, pk_mul]; (with_reducible refine vp_in_nI ?_ ?_) <;> first | omega | decide))); (conv => whnf))
    | (refine And.intro (by first | with_reducible assumption | exact (show tL _ = _ from rfl) | decide) ?_; (conv => whnf))
    | ((with_reducible refine @And.intro (_ = _) _ ?_ ?_); (· rfl); (conv => whnf))
    | ((with_reducible refine @And.intro (@LE.le Nat _ _ _) _ ?_ ?_); (· (first | exact Nat.zero_le _ | exact Nat.le_of_ble_eq_true rfl | omega)); (conv => whnf))
    | ((with_reducible refine @And.intro (@LT.lt Nat _ _ _) _ ?_ ?_); (· omega); (conv => whnf))
    | ((with_reducible refine @And.intro (∃ _, _ = _) _ ?_ ?_); (· exact ⟨_, rfl⟩); (conv => whnf))
    | ((with_reducible refine @And.intro (_ ∨ _) _ ?_ ?_); (· (first | exact Or.inl rfl | exact Or.inr rfl | exact t_b01 _ | assumption)); (conv => whnf))
    | ((with_reducible refine @And.intro (¬ (_ = _)) _ ?_ ?_); (· first | assumption | (with_reducible assumption)); (conv => whnf))
    | (refine hX _ _ _ _ _ _ ?_; (conv => whnf); fail_if_success show False)
    | fail)
  rw [t_si]
  obtain ⟨J, hJ, hg1, hG1, h01⟩ := t_pub hg
  rw [← hJ]
  rw [← hG1] at hQ
  clear hJ hG1 hg I
  have hg := hg1
  have hok := hg.1
  have hl := hg.2.1
  have h8 := hok.2.2.2.1
  have h9 := hok.2.1
  (conv => whnf)
  rcases t_hc hg a with ⟨h, hh, rfl, e1, f1⟩ | ⟨e1, f1⟩
  · rw [q_night, f1, g_ck_t, nI_clamp (by omega)] at hQ
    repeat' (first
      | ((with_reducible refine @And.intro (vp_in _ _) _ ?_ ?_); (· (first | with_reducible assumption | ((with_reducible refine t_vin ?_); decide) | ((with_reducible refine vp_in_nI ?_ ?_) <;> first | omega | decide) | (simp (disch := omega) only [xl_n, xl_m, nI_dec, nI_sb, nI_add, pk_mul]; (with_reducible refine vp_in_nI ?_ ?_) <;> first | omega | decide))); (conv => whnf))
      | (refine And.intro (by first | with_reducible assumption | exact (show tL _ = _ from rfl) | decide) ?_; (conv => whnf))
      | ((with_reducible refine @And.intro (_ = _) _ ?_ ?_); (· rfl); (conv => whnf))
      | ((with_reducible refine @And.intro (@LE.le Nat _ _ _) _ ?_ ?_); (· (first | exact Nat.zero_le _ | exact Nat.le_of_ble_eq_true rfl | omega)); (conv => whnf))
      | ((with_reducible refine @And.intro (@LT.lt Nat _ _ _) _ ?_ ?_); (· omega); (conv => whnf))
      | ((with_reducible refine @And.intro (∃ _, _ = _) _ ?_ ?_); (· exact ⟨_, rfl⟩); (conv => whnf))
      | ((with_reducible refine @And.intro (_ ∨ _) _ ?_ ?_); (· (first | exact Or.inl rfl | exact Or.inr rfl | exact t_b01 _ | assumption)); (conv => whnf))
      | ((with_reducible refine @And.intro (¬ (_ = _)) _ ?_ ?_); (· first | assumption | (with_reducible assumption)); (conv => whnf))
      | (refine hX _ _ _ _ _ _ ?_; (conv => whnf); fail_if_success show False)
      | (rw [t_si]; (conv => whnf))
      | (refine ⟨_, rfl, ?_⟩; (conv => whnf))
      | (refine ⟨_, _, rfl, ?_⟩; (conv => whnf))
      | (refine ⟨_, _, _, rfl, ?_⟩; (conv => whnf))
      | (refine ⟨_, _, _, _, rfl, ?_⟩; (conv => whnf))
      | (rw [e1]; (conv => whnf))
      | (refine And.intro (fun c => ?_) (fun c => ?_) <;> (first | (exact absurd c (by decide +kernel)) | (conv => whnf)))
      | fail)
    intro M hM hR hne
    obtain ⟨r, hr⟩ : ∃ r, g_seat (tG J) (g_nt (tG J)) (t_h J) [] = some r := by
      cases e : g_seat (tG J) (g_nt (tG J)) (t_h J) [] with
      | none => exact absurd e hne
      | some r => exact ⟨r, rfl⟩
    have hr2 : g_seat (tG J) (g_nt (tG J)) (gn (gGK (tG J))) [] = some r := hr
    rw [hr2] at hQ
    have hv := hR r hr h hh
    have hh9 : h < 9 := by omega
    (conv => whnf)
    repeat' (first
      | ((with_reducible refine @And.intro (vp_in _ _) _ ?_ ?_); (· (first | with_reducible assumption | ((with_reducible refine t_vin ?_); decide) | ((with_reducible refine vp_in_nI ?_ ?_) <;> first | omega | decide) | (simp (disch := omega) only [xl_n, xl_m, nI_dec, nI_sb, nI_add, pk_mul]; (with_reducible refine vp_in_nI ?_ ?_) <;> first | omega | decide))); (conv => whnf))
      | (refine And.intro (by first | with_reducible assumption | exact (show tL _ = _ from rfl) | decide) ?_; (conv => whnf))
      | ((with_reducible refine @And.intro (_ = _) _ ?_ ?_); (· rfl); (conv => whnf))
      | ((with_reducible refine @And.intro (@LE.le Nat _ _ _) _ ?_ ?_); (· (first | exact Nat.zero_le _ | exact Nat.le_of_ble_eq_true rfl | omega)); (conv => whnf))
      | ((with_reducible refine @And.intro (@LT.lt Nat _ _ _) _ ?_ ?_); (· omega); (conv => whnf))
      | ((with_reducible refine @And.intro (∃ _, _ = _) _ ?_ ?_); (· exact ⟨_, rfl⟩); (conv => whnf))
      | ((with_reducible refine @And.intro (_ ∨ _) _ ?_ ?_); (· (first | exact Or.inl rfl | exact Or.inr rfl | exact t_b01 _ | assumption)); (conv => whnf))
      | ((with_reducible refine @And.intro (¬ (_ = _)) _ ?_ ?_); (· first | assumption | (with_reducible assumption)); (conv => whnf))
      | (refine hX _ _ _ _ _ _ ?_; (conv => whnf); fail_if_success show False)
      | (rw [t_si]; (conv => whnf))
      | (refine ⟨_, rfl, ?_⟩; (conv => whnf))
      | (refine ⟨_, _, rfl, ?_⟩; (conv => whnf))
      | (refine ⟨_, _, _, rfl, ?_⟩; (conv => whnf))
      | (refine ⟨_, _, _, _, rfl, ?_⟩; (conv => whnf))
      | (refine And.intro (fun c => ?_) (fun c => ?_) <;> (first | (exact absurd c (by decide +kernel)) | (conv => whnf)))
      | fail)
    refine t_ask hQ hg hM.sp ((congrFun (hM 0 (by decide)) 0).trans h01) ?_
    show M 55 (nI h).toNatClampNeg = _
    rw [nI_clamp (by omega), hv]
    rfl
  · rw [q_night] at hQ
    repeat' (first
      | ((with_reducible refine @And.intro (vp_in _ _) _ ?_ ?_); (· (first | with_reducible assumption | ((with_reducible refine t_vin ?_); decide) | ((with_reducible refine vp_in_nI ?_ ?_) <;> first | omega | decide) | (simp (disch := omega) only [xl_n, xl_m, nI_dec, nI_sb, nI_add, pk_mul]; (with_reducible refine vp_in_nI ?_ ?_) <;> first | omega | decide))); (conv => whnf))
      | (refine And.intro (by first | with_reducible assumption | exact (show tL _ = _ from rfl) | decide) ?_; (conv => whnf))
      | ((with_reducible refine @And.intro (_ = _) _ ?_ ?_); (· rfl); (conv => whnf))
      | ((with_reducible refine @And.intro (@LE.le Nat _ _ _) _ ?_ ?_); (· (first | exact Nat.zero_le _ | exact Nat.le_of_ble_eq_true rfl | omega)); (conv => whnf))
      | ((with_reducible refine @And.intro (@LT.lt Nat _ _ _) _ ?_ ?_); (· omega); (conv => whnf))
      | ((with_reducible refine @And.intro (∃ _, _ = _) _ ?_ ?_); (· exact ⟨_, rfl⟩); (conv => whnf))
      | ((with_reducible refine @And.intro (_ ∨ _) _ ?_ ?_); (· (first | exact Or.inl rfl | exact Or.inr rfl | exact t_b01 _ | assumption)); (conv => whnf))
      | ((with_reducible refine @And.intro (¬ (_ = _)) _ ?_ ?_); (· first | assumption | (with_reducible assumption)); (conv => whnf))
      | (refine hX _ _ _ _ _ _ ?_; (conv => whnf); fail_if_success show False)
      | (rw [t_si]; (conv => whnf))
      | (refine ⟨_, rfl, ?_⟩; (conv => whnf))
      | (refine ⟨_, _, rfl, ?_⟩; (conv => whnf))
      | (refine ⟨_, _, _, rfl, ?_⟩; (conv => whnf))
      | (refine ⟨_, _, _, _, rfl, ?_⟩; (conv => whnf))
      | (rw [e1]; (conv => whnf))
      | (refine And.intro (fun c => ?_) (fun c => ?_) <;> (first | (exact absurd c (by decide +kernel)) | (conv => whnf)))
      | fail)
    exact t_ref' hQ hg h01 (by simp [f1]) (by decide) rfl rfl
theorem ct_X11_night {Iv : xI} (hI : xm_good Iv) : xm_Ct Iv yX11_night (ws_ yX11_night cX11_night 2 (some .int)) 22 0 0 S_X11_night := xm_enter (rt := 0) (init := false) (by decide +kernel) rfl (fun h => by cases h) (Or.inl ⟨rfl, rfl⟩) (oX11_night hI) body_X11_night
theorem cv_X11_night {Iv : xI} {own : String} {cc : ByteArray} {fr pc idx : Nat} (hI : xm_good Iv) (hdg : decode cc pc = .ok (.invokevirtual idx, 3)) (hl : xm_ml own idx yX11_night) (hfr : 22 < fr) : xm_CallOK Iv own cc fr pc (pc + 3) 2 0 0 (xm_this 8 S_X11_night) := xm_callV 8 hI (ct_X11_night hI) hdg hl q2541 q2542 q145 q2543 rfl rfl (by decide +kernel) hfr (by decide)

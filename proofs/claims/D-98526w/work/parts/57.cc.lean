/-! ===== the reference: all casts gone through ===== -/
set_option maxRecDepth 100000
/-- the state of the casts, of m puppets -/
def t_cst (I : tI) (m : Nat) (s : gC) : Prop := I 0 52 = nI s.1 ∧ I 0 53 = s.2.1 ∧ ∀ k, k < m → I 49 k = s.2.2.1 k ∧ I 50 k = s.2.2.2 k
def t_cf (I J : tI) : Prop := (∀ b, b ≠ 48 → b ≠ 49 → b ≠ 50 → b ≠ 0 → J b = I b) ∧ ∀ k, k ≠ 52 → k ≠ 53 → J 0 k = I 0 k
theorem t_cf.rf {I : tI} : t_cf I I := ⟨fun _ _ _ _ _ => rfl, fun _ _ _ => rfl⟩
theorem t_cf.tr {I J L : tI} (h : t_cf I J) (h2 : t_cf J L) : t_cf I L := ⟨fun b a c d e => (h2.1 b a c d e).trans (h.1 b a c d e), fun k a b => (h2.2 k a b).trans (h.2 k a b)⟩
theorem t_cf.sp {I J : tI} (h : t_cf I J) : t_sp I J := ⟨fun b b0 hf => h.1 b (fun e => hf (by subst e; unfold t_free t_scr; omega)) (fun e => hf (by subst e; unfold t_free t_scr; omega)) (fun e => hf (by subst e; unfold t_free t_scr; omega)) b0, fun k _ hk _ => h.2 k (fun e => hk (by subst e; unfold t_scf; omega)) (fun e => hk (by subst e; unfold t_scf; omega))⟩
theorem t_cf.u {I : tI} {b k : Nat} {v : Int32} (h : b = 48 ∨ b = 49 ∨ b = 50) : t_cf I (xm_u2 I b k v) := ⟨fun c h1 h2 h3 h4 => funext fun j => xm_u2_ne (by omega) j, fun j _ _ => xm_u2_ne (by omega) _⟩
theorem t_cf.uf {I : tI} {k : Nat} {v : Int32} (h : k = 52 ∨ k = 53) : t_cf I (xm_u2 I 0 k v) := ⟨fun c h1 h2 h3 h4 => funext fun j => xm_u2_ne h4 j, fun j h1 h2 => by rw [xm_u2_at, if_neg (by omega)]⟩
theorem t_cf.cp {I J : tI} {P : gP} (h : t_cf I J) (hp : t_cp I P) : t_cp J P := by
  unfold t_cp
  rw [h.2 51 (by decide) (by decide)]
  exact ⟨hp.1, t_cq_eq hp.2 (h.1 46 (by decide) (by decide) (by decide) (by decide)) (h.1 47 (by decide) (by decide) (by decide) (by decide))⟩
/-- the casts of what is left, behind what is cast, by the first k sets -/
def g_part (G : gG) (T : gT) (al : Int32) (p : Nat) (r : gP) (used : Int32) (pre : List Int32) (k : Nat) : List (List Int32) := ((g_sets G al used p k).flatMap fun s => (g_cs G T al r (used ||| s)).map (s :: ·)).map (pre ++ ·)
theorem g_part_s {G : gG} {T : gT} {al used : Int32} {p k : Nat} {r : gP} {pre : List Int32} : g_part G T al p r used pre (k + 1) = if g_can G al used p (nI (k + 1)) = true then g_part G T al p r used pre k ++ (g_cs G T al r (used ||| nI (k + 1))).map ((pre ++ [nI (k + 1)]) ++ ·) else g_part G T al p r used pre k := by
  unfold g_part
  rw [g_sets_s]
  split
  · rw [List.flatMap_append, List.map_append]
    congr 1
    simp [List.flatMap_cons]
  · simp
theorem g_part_le {G : gG} {T : gT} {al used : Int32} {p : Nat} {r : gP} {pre : List Int32} {k n : Nat} (h : k ≤ n) : (g_part G T al p r used pre k).length ≤ (g_part G T al p r used pre n).length := by
  induction n with
  | zero =>
    have : k = 0 := by omega
    rw [this]
    exact Nat.le_refl _
  | succ n ih =>
    by_cases e : k = n + 1
    · rw [e]
      exact Nat.le_refl _
    · have := ih (by omega)
      rw [g_part_s]
      split
      · rw [List.length_append]
        omega
      · exact this
theorem t_2n : ∀ n, n ≤ 9 → nI 1 <<< (nI n &&& 31) = nI (2 ^ n) := by decide +kernel
theorem g_cast_n {one : Bool} {L : List (List Int32)} {s : gC} : (g_cast one L s).1 ≤ s.1 + L.length := by
  unfold g_cast
  rw [g_done_n]
  unfold g_proc
  split
  · split
    · simp
      omega
    · simp
  · exact Nat.le_refl _
theorem g_cast_n1 {L : List (List Int32)} {s : gC} (h : s.1 ≤ 1) : (g_cast true L s).1 ≤ 1 := by
  unfold g_cast
  rw [g_done_n]
  unfold g_proc
  rw [if_pos rfl]
  split
  · simp
    omega
  · simpa using h
def t_bd (one : Bool) (s : gC) (n : Nat) : Prop := (one = true ∧ s.1 ≤ 1) ∨ (one = false ∧ s.1 + n < 2 ^ 31)
theorem t_bd_lt {one : Bool} {s : gC} {n : Nat} (h : t_bd one s n) : s.1 < 2 ^ 31 := by
  rcases h with ⟨-, h⟩ | ⟨-, h⟩ <;> omega
theorem t_bd_cast {one : Bool} {s : gC} {A : List (List Int32)} {n m : Nat} (h : t_bd one s n) (hm : A.length + m ≤ n) : t_bd one (g_cast one A s) m := by
  rcases h with ⟨rfl, h⟩ | ⟨rfl, h⟩
  · exact Or.inl ⟨rfl, g_cast_n1 h⟩
  · refine Or.inr ⟨rfl, ?_⟩
    have := g_cast_n (one := false) (L := A) (s := s)
    omega
def S_X11_goesCasting (d : Nat) : xS := match d with
  | 0 => fun _ _ _ _ => False
  | d + 1 => tU fun as I Q => ∃ row A rest pre al one s, as = [.ref 0, .ref row, .int (nI pre.length), .int (g_un pre), .int al, .int (t_b one)] ∧ t_row row ∧ t_good I ∧ A.length = pre.length ∧ rest.length ≤ d ∧ (A ++ rest).length ≤ 12 ∧ (∀ q, q ∈ A ++ rest → q.1 < t_p I) ∧ t_cp I (A ++ rest) ∧ t_cst I (A ++ rest).length s ∧ (∀ j v, pre[j]? = some v → I 48 j = v) ∧ t_bd one s (g_cs (tG I) (tA I row) al rest (g_un pre)).length ∧
    ∀ J, t_cf I J → (∀ j, j < pre.length → J 48 j = I 48 j) → t_cst J (A ++ rest).length (g_cast one ((g_cs (tG I) (tA I row) al rest (g_un pre)).map (pre ++ ·)) s) → Q none J
abbrev bX11_goesCasting_0 : List xE := [(.iload 5, 2, 0, 0, 0), (.ifCond .eq 11, 5, 0, 13, 0), (.aload_n 0, 6, 0, 0, 0), (.getfield 394, 9, 8, 52, 0), (.ifCond .le 4, 12, 0, 13, 0), (.return_, 13, 0, 0, 0)]
abbrev bX11_goesCasting_13 : List xE := [(.iload_n 2, 14, 0, 0, 0), (.aload_n 0, 15, 0, 0, 0), (.getfield 391, 18, 8, 51, 0), (.if_icmp .ne 90, 21, 0, 108, 0), (.iconst 0, 22, 0, 0, 0), (.istore 6, 24, 0, 0, 0)]
abbrev bX11_goesCasting_24 : List xE := [(.iload 6, 26, 0, 0, 0), (.aload_n 0, 27, 0, 0, 0), (.getfield 391, 30, 8, 51, 0), (.if_icmp .ge 57, 33, 0, 87, 0), (.aload_n 0, 34, 0, 0, 0), (.getfield 115, 37, 8, 49, 1), (.iload 6, 39, 0, 0, 0), (.aload_n 0, 40, 0, 0, 0), (.getfield 394, 43, 8, 52, 0), (.ifCond .ne 13, 46, 0, 56, 0), (.aload_n 0, 47, 0, 0, 0), (.getfield 112, 50, 8, 48, 1), (.iload 6, 52, 0, 0, 0), (.iaload, 53, 0, 0, 0), (.goto 10, 56, 0, 63, 0)]
abbrev bX11_goesCasting_56 : List xE := [(.aload_n 0, 57, 0, 0, 0), (.getfield 115, 60, 8, 49, 1), (.iload 6, 62, 0, 0, 0), (.iaload, 63, 0, 0, 0)]
abbrev bX11_goesCasting_63 : List xE := [(.iastore, 64, 0, 0, 0), (.aload_n 0, 65, 0, 0, 0), (.getfield 118, 68, 8, 50, 1), (.iload 6, 70, 0, 0, 0), (.dup2, 71, 0, 0, 0), (.iaload, 72, 0, 0, 0), (.aload_n 0, 73, 0, 0, 0), (.getfield 112, 76, 8, 48, 1), (.iload 6, 78, 0, 0, 0), (.iaload, 79, 0, 0, 0), (.ior, 80, 0, 0, 0), (.iastore, 81, 0, 0, 0), (.iinc 6 1, 84, 0, 0, 0), (.goto (-60), 87, 0, 24, 0)]
abbrev bX11_goesCasting_87 : List xE := [(.aload_n 0, 88, 0, 0, 0), (.dup, 89, 0, 0, 0), (.getfield 394, 92, 8, 52, 0), (.iconst 1, 93, 0, 0, 0), (.iadd, 94, 0, 0, 0), (.putfield 394, 97, 8, 52, 0), (.aload_n 0, 98, 0, 0, 0), (.dup, 99, 0, 0, 0), (.getfield 397, 102, 8, 53, 0), (.iload_n 3, 103, 0, 0, 0), (.iand, 104, 0, 0, 0), (.putfield 397, 107, 8, 53, 0), (.return_, 108, 0, 0, 0)]
abbrev bX11_goesCasting_108 : List xE := [(.aload_n 0, 109, 0, 0, 0), (.getfield 106, 112, 8, 46, 1), (.iload_n 2, 113, 0, 0, 0), (.iaload, 114, 0, 0, 0), (.istore 6, 116, 0, 0, 0), (.aload_n 1, 117, 0, 0, 0), (.bipush 9, 119, 0, 0, 0), (.iload 6, 121, 0, 0, 0), (.iadd, 122, 0, 0, 0), (.iaload, 123, 0, 0, 0), (.aload_n 0, 124, 0, 0, 0), (.getfield 109, 127, 8, 47, 1), (.iload_n 2, 128, 0, 0, 0), (.iaload, 129, 0, 0, 0), (.if_icmp .ge 4, 132, 0, 133, 0), (.return_, 133, 0, 0, 0)]
abbrev bX11_goesCasting_133 : List xE := [(.iconst 1, 134, 0, 0, 0), (.istore 7, 136, 0, 0, 0)]
abbrev bX11_goesCasting_136 : List xE := [(.iload 7, 138, 0, 0, 0), (.iconst 1, 139, 0, 0, 0), (.aload_n 0, 140, 0, 0, 0), (.getfield 23, 143, 8, 12, 1), (.iconst 0, 144, 0, 0, 0), (.iaload, 145, 0, 0, 0), (.ishl, 146, 0, 0, 0), (.if_icmp .ge 83, 149, 0, 229, 0), (.iload 7, 151, 0, 0, 0), (.invokestatic 246, 154, 0, 0, 9), (.aload_n 0, 155, 0, 0, 0), (.getfield 55, 158, 8, 22, 1), (.iload 6, 160, 0, 0, 0), (.aaload, 161, 0, 0, 0), (.iconst 1, 162, 0, 0, 0), (.iaload, 163, 0, 0, 0), (.if_icmp .ne 60, 166, 0, 223, 0), (.iload 7, 168, 0, 0, 0), (.iload_n 3, 169, 0, 0, 0), (.aload_n 0, 170, 0, 0, 0), (.getfield 35, 173, 8, 16, 1), (.iload 6, 175, 0, 0, 0), (.iaload, 176, 0, 0, 0), (.ior, 177, 0, 0, 0), (.iload 4, 179, 0, 0, 0), (.iconst (-1), 180, 0, 0, 0), (.ixor, 181, 0, 0, 0), (.ior, 182, 0, 0, 0), (.iand, 183, 0, 0, 0), (.ifCond .ne 40, 186, 0, 223, 0), (.aload_n 0, 187, 0, 0, 0), (.iload_n 3, 188, 0, 0, 0), (.iload 7, 190, 0, 0, 0), (.invokevirtual 400, 193, 0, 1, 9), (.ifCond .ne 6, 196, 0, 199, 0), (.goto 27, 199, 0, 223, 0)]
abbrev bX11_goesCasting_199 : List xE := [(.aload_n 0, 200, 0, 0, 0), (.getfield 112, 203, 8, 48, 1), (.iload_n 2, 204, 0, 0, 0), (.iload 7, 206, 0, 0, 0), (.iastore, 207, 0, 0, 0), (.aload_n 0, 208, 0, 0, 0), (.aload_n 1, 209, 0, 0, 0), (.iload_n 2, 210, 0, 0, 0), (.iconst 1, 211, 0, 0, 0), (.iadd, 212, 0, 0, 0), (.iload_n 3, 213, 0, 0, 0), (.iload 7, 215, 0, 0, 0), (.ior, 216, 0, 0, 0), (.iload 4, 218, 0, 0, 0), (.iload 5, 220, 0, 0, 0), (.invokevirtual 403, 223, 0, 2, 9)]
abbrev bX11_goesCasting_223 : List xE := [(.iinc 7 1, 226, 0, 0, 0), (.goto (-90), 229, 0, 136, 0)]
abbrev bX11_goesCasting_229 : List xE := [(.return_, 230, 0, 0, 0)]
abbrev kX11_goesCasting : List (Nat × List xE) := [(0, bX11_goesCasting_0), (13, bX11_goesCasting_13), (24, bX11_goesCasting_24), (56, bX11_goesCasting_56), (63, bX11_goesCasting_63), (87, bX11_goesCasting_87), (108, bX11_goesCasting_108), (133, bX11_goesCasting_133), (136, bX11_goesCasting_136), (199, bX11_goesCasting_199), (223, bX11_goesCasting_223), (229, bX11_goesCasting_229)]
abbrev lX11_goesCasting (d : Nat) : List (Nat × Nat × Nat × xS) := [(1, 0, 0, S_X11_ones), (3, 0, 0, xm_this 8 S_X11_speaksWith), (6, 0, 0, (xm_this 8 (S_X11_goesCasting d)))]
theorem oX11_goesCasting_0 {Iv : xI} (hI : xm_good Iv) (d : Nat)  (ih_X11_goesCasting : xm_Ct Iv yX11_goesCasting (ws_ yX11_goesCasting cX11_goesCasting 8 none) (d + 9) 0 0 (S_X11_goesCasting d)): xm_okb Iv RX11 cX11_goesCasting false (d + 10) (lX11_goesCasting d) bX11_goesCasting_0 0 := xo_0 dX11_goesCasting_0 rfl trivial (xo_0 dX11_goesCasting_2 rfl rfl (xo_0 dX11_goesCasting_5 rfl trivial (xo_0 dX11_goesCasting_6 rfl (xm_fg_of (Or.inl q2007) (by decide) rfl (by decide) rfl rfl (Or.inl rfl) rfl) (xo_0 dX11_goesCasting_9 rfl rfl (xo_0 dX11_goesCasting_12 rfl trivial (xo_n))))))
theorem oX11_goesCasting_13 {Iv : xI} (hI : xm_good Iv) (d : Nat)  (ih_X11_goesCasting : xm_Ct Iv yX11_goesCasting (ws_ yX11_goesCasting cX11_goesCasting 8 none) (d + 9) 0 0 (S_X11_goesCasting d)): xm_okb Iv RX11 cX11_goesCasting false (d + 10) (lX11_goesCasting d) bX11_goesCasting_13 13 := xo_0 dX11_goesCasting_13 rfl trivial (xo_0 dX11_goesCasting_14 rfl trivial (xo_0 dX11_goesCasting_15 rfl (xm_fg_of (Or.inl q2006) (by decide) rfl (by decide) rfl rfl (Or.inl rfl) rfl) (xo_0 dX11_goesCasting_18 rfl rfl (xo_0 dX11_goesCasting_21 rfl trivial (xo_0 dX11_goesCasting_22 rfl trivial (xo_n))))))
theorem oX11_goesCasting_24 {Iv : xI} (hI : xm_good Iv) (d : Nat)  (ih_X11_goesCasting : xm_Ct Iv yX11_goesCasting (ws_ yX11_goesCasting cX11_goesCasting 8 none) (d + 9) 0 0 (S_X11_goesCasting d)): xm_okb Iv RX11 cX11_goesCasting false (d + 10) (lX11_goesCasting d) bX11_goesCasting_24 24 := xo_0 dX11_goesCasting_24 rfl trivial (xo_0 dX11_goesCasting_26 rfl trivial (xo_0 dX11_goesCasting_27 rfl (xm_fg_of (Or.inl q2006) (by decide) rfl (by decide) rfl rfl (Or.inl rfl) rfl) (xo_0 dX11_goesCasting_30 rfl rfl (xo_0 dX11_goesCasting_33 rfl trivial (xo_1 dX11_goesCasting_34 rfl (xm_fg_of (Or.inl q2004) (by decide) rfl (by decide) rfl rfl (Or.inl rfl) rfl) (xo_0 dX11_goesCasting_37 rfl trivial (xo_0 dX11_goesCasting_39 rfl trivial (xo_0 dX11_goesCasting_40 rfl (xm_fg_of (Or.inl q2007) (by decide) rfl (by decide) rfl rfl (Or.inl rfl) rfl) (xo_0 dX11_goesCasting_43 rfl rfl (xo_0 dX11_goesCasting_46 rfl trivial (xo_1 dX11_goesCasting_47 rfl (xm_fg_of (Or.inl q2003) (by decide) rfl (by decide) rfl rfl (Or.inl rfl) rfl) (xo_0 dX11_goesCasting_50 rfl trivial (xo_0 dX11_goesCasting_52 rfl trivial (xo_0 dX11_goesCasting_53 rfl rfl (xo_n)))))))))))))))
theorem oX11_goesCasting_56 {Iv : xI} (hI : xm_good Iv) (d : Nat)  (ih_X11_goesCasting : xm_Ct Iv yX11_goesCasting (ws_ yX11_goesCasting cX11_goesCasting 8 none) (d + 9) 0 0 (S_X11_goesCasting d)): xm_okb Iv RX11 cX11_goesCasting false (d + 10) (lX11_goesCasting d) bX11_goesCasting_56 56 := xo_0 dX11_goesCasting_56 rfl trivial (xo_1 dX11_goesCasting_57 rfl (xm_fg_of (Or.inl q2004) (by decide) rfl (by decide) rfl rfl (Or.inl rfl) rfl) (xo_0 dX11_goesCasting_60 rfl trivial (xo_0 dX11_goesCasting_62 rfl trivial (xo_n))))
theorem oX11_goesCasting_63 {Iv : xI} (hI : xm_good Iv) (d : Nat)  (ih_X11_goesCasting : xm_Ct Iv yX11_goesCasting (ws_ yX11_goesCasting cX11_goesCasting 8 none) (d + 9) 0 0 (S_X11_goesCasting d)): xm_okb Iv RX11 cX11_goesCasting false (d + 10) (lX11_goesCasting d) bX11_goesCasting_63 63 := xo_0 dX11_goesCasting_63 rfl trivial (xo_0 dX11_goesCasting_64 rfl trivial (xo_1 dX11_goesCasting_65 rfl (xm_fg_of (Or.inl q2005) (by decide) rfl (by decide) rfl rfl (Or.inl rfl) rfl) (xo_0 dX11_goesCasting_68 rfl trivial (xo_0 dX11_goesCasting_70 rfl trivial (xo_0 dX11_goesCasting_71 rfl trivial (xo_0 dX11_goesCasting_72 rfl trivial (xo_1 dX11_goesCasting_73 rfl (xm_fg_of (Or.inl q2003) (by decide) rfl (by decide) rfl rfl (Or.inl rfl) rfl) (xo_0 dX11_goesCasting_76 rfl trivial (xo_0 dX11_goesCasting_78 rfl trivial (xo_0 dX11_goesCasting_79 rfl trivial (xo_0 dX11_goesCasting_80 rfl trivial (xo_0 dX11_goesCasting_81 rfl trivial (xo_0 dX11_goesCasting_84 rfl rfl (xo_n))))))))))))))
theorem oX11_goesCasting_87 {Iv : xI} (hI : xm_good Iv) (d : Nat)  (ih_X11_goesCasting : xm_Ct Iv yX11_goesCasting (ws_ yX11_goesCasting cX11_goesCasting 8 none) (d + 9) 0 0 (S_X11_goesCasting d)): xm_okb Iv RX11 cX11_goesCasting false (d + 10) (lX11_goesCasting d) bX11_goesCasting_87 87 := xo_0 dX11_goesCasting_87 rfl trivial (xo_0 dX11_goesCasting_88 rfl trivial (xo_0 dX11_goesCasting_89 rfl (xm_fg_of (Or.inl q2007) (by decide) rfl (by decide) rfl rfl (Or.inl rfl) rfl) (xo_0 dX11_goesCasting_92 rfl trivial (xo_0 dX11_goesCasting_93 rfl trivial (xo_0 dX11_goesCasting_94 rfl (xm_fp_of (xm_fg_of (Or.inl q2007) (by decide) rfl (by decide) rfl rfl (Or.inl rfl) rfl) (by decide) rfl (Or.inl ⟨rfl, rfl⟩) rfl) (xo_0 dX11_goesCasting_97 rfl trivial (xo_0 dX11_goesCasting_98 rfl trivial (xo_0 dX11_goesCasting_99 rfl (xm_fg_of (Or.inl q2008) (by decide) rfl (by decide) rfl rfl (Or.inl rfl) rfl) (xo_0 dX11_goesCasting_102 rfl trivial (xo_0 dX11_goesCasting_103 rfl trivial (xo_0 dX11_goesCasting_104 rfl (xm_fp_of (xm_fg_of (Or.inl q2008) (by decide) rfl (by decide) rfl rfl (Or.inl rfl) rfl) (by decide) rfl (Or.inl ⟨rfl, rfl⟩) rfl) (xo_0 dX11_goesCasting_107 rfl trivial (xo_n)))))))))))))
theorem oX11_goesCasting_108 {Iv : xI} (hI : xm_good Iv) (d : Nat)  (ih_X11_goesCasting : xm_Ct Iv yX11_goesCasting (ws_ yX11_goesCasting cX11_goesCasting 8 none) (d + 9) 0 0 (S_X11_goesCasting d)): xm_okb Iv RX11 cX11_goesCasting false (d + 10) (lX11_goesCasting d) bX11_goesCasting_108 108 := xo_0 dX11_goesCasting_108 rfl trivial (xo_1 dX11_goesCasting_109 rfl (xm_fg_of (Or.inl q2001) (by decide) rfl (by decide) rfl rfl (Or.inl rfl) rfl) (xo_0 dX11_goesCasting_112 rfl trivial (xo_0 dX11_goesCasting_113 rfl trivial (xo_0 dX11_goesCasting_114 rfl trivial (xo_0 dX11_goesCasting_116 rfl trivial (xo_0 dX11_goesCasting_117 rfl (xo_bipush (by decide +kernel)) (xo_0 dX11_goesCasting_119 rfl trivial (xo_0 dX11_goesCasting_121 rfl trivial (xo_0 dX11_goesCasting_122 rfl trivial (xo_0 dX11_goesCasting_123 rfl trivial (xo_1 dX11_goesCasting_124 rfl (xm_fg_of (Or.inl q2002) (by decide) rfl (by decide) rfl rfl (Or.inl rfl) rfl) (xo_0 dX11_goesCasting_127 rfl trivial (xo_0 dX11_goesCasting_128 rfl trivial (xo_0 dX11_goesCasting_129 rfl rfl (xo_0 dX11_goesCasting_132 rfl trivial (xo_n))))))))))))))))
theorem oX11_goesCasting_133 {Iv : xI} (hI : xm_good Iv) (d : Nat)  (ih_X11_goesCasting : xm_Ct Iv yX11_goesCasting (ws_ yX11_goesCasting cX11_goesCasting 8 none) (d + 9) 0 0 (S_X11_goesCasting d)): xm_okb Iv RX11 cX11_goesCasting false (d + 10) (lX11_goesCasting d) bX11_goesCasting_133 133 := xo_0 dX11_goesCasting_133 rfl trivial (xo_0 dX11_goesCasting_134 rfl trivial (xo_n))
theorem oX11_goesCasting_136 {Iv : xI} (hI : xm_good Iv) (d : Nat)  (ih_X11_goesCasting : xm_Ct Iv yX11_goesCasting (ws_ yX11_goesCasting cX11_goesCasting 8 none) (d + 9) 0 0 (S_X11_goesCasting d)): xm_okb Iv RX11 cX11_goesCasting false (d + 10) (lX11_goesCasting d) bX11_goesCasting_136 136 := xo_0 dX11_goesCasting_136 rfl trivial (xo_0 dX11_goesCasting_138 rfl trivial (xo_0 dX11_goesCasting_139 rfl trivial (xo_1 dX11_goesCasting_140 rfl (xm_fg_of (Or.inl q1967) (by decide) rfl (by decide) rfl rfl (Or.inl rfl) rfl) (xo_0 dX11_goesCasting_143 rfl trivial (xo_0 dX11_goesCasting_144 rfl trivial (xo_0 dX11_goesCasting_145 rfl trivial (xo_0 dX11_goesCasting_146 rfl rfl (xo_0 dX11_goesCasting_149 rfl trivial (xo_c rfl (cv_X11_ones hI dX11_goesCasting_151 (Or.inl q2218) (by omega)) (xo_0 dX11_goesCasting_154 rfl trivial (xo_1 dX11_goesCasting_155 rfl (xm_fg_of (Or.inl q1977) (by decide) rfl (by decide) rfl rfl (Or.inl rfl) rfl) (xo_0 dX11_goesCasting_158 rfl trivial (xo_0 dX11_goesCasting_160 rfl trivial (xo_0 dX11_goesCasting_161 rfl trivial (xo_0 dX11_goesCasting_162 rfl trivial (xo_0 dX11_goesCasting_163 rfl rfl (xo_0 dX11_goesCasting_166 rfl trivial (xo_0 dX11_goesCasting_168 rfl trivial (xo_0 dX11_goesCasting_169 rfl trivial (xo_1 dX11_goesCasting_170 rfl (xm_fg_of (Or.inl q1971) (by decide) rfl (by decide) rfl rfl (Or.inl rfl) rfl) (xo_0 dX11_goesCasting_173 rfl trivial (xo_0 dX11_goesCasting_175 rfl trivial (xo_0 dX11_goesCasting_176 rfl trivial (xo_0 dX11_goesCasting_177 rfl trivial (xo_0 dX11_goesCasting_179 rfl trivial (xo_0 dX11_goesCasting_180 rfl trivial (xo_0 dX11_goesCasting_181 rfl trivial (xo_0 dX11_goesCasting_182 rfl trivial (xo_0 dX11_goesCasting_183 rfl rfl (xo_0 dX11_goesCasting_186 rfl trivial (xo_0 dX11_goesCasting_187 rfl trivial (xo_0 dX11_goesCasting_188 rfl trivial (xo_c rfl (cv_X11_speaksWith hI dX11_goesCasting_190 (Or.inl q2435) (by omega)) (xo_0 dX11_goesCasting_193 rfl rfl (xo_0 dX11_goesCasting_196 rfl rfl (xo_n))))))))))))))))))))))))))))))))))))
theorem oX11_goesCasting_199 {Iv : xI} (hI : xm_good Iv) (d : Nat)  (ih_X11_goesCasting : xm_Ct Iv yX11_goesCasting (ws_ yX11_goesCasting cX11_goesCasting 8 none) (d + 9) 0 0 (S_X11_goesCasting d)): xm_okb Iv RX11 cX11_goesCasting false (d + 10) (lX11_goesCasting d) bX11_goesCasting_199 199 := xo_0 dX11_goesCasting_199 rfl trivial (xo_1 dX11_goesCasting_200 rfl (xm_fg_of (Or.inl q2003) (by decide) rfl (by decide) rfl rfl (Or.inl rfl) rfl) (xo_0 dX11_goesCasting_203 rfl trivial (xo_0 dX11_goesCasting_204 rfl trivial (xo_0 dX11_goesCasting_206 rfl trivial (xo_0 dX11_goesCasting_207 rfl trivial (xo_0 dX11_goesCasting_208 rfl trivial (xo_0 dX11_goesCasting_209 rfl trivial (xo_0 dX11_goesCasting_210 rfl trivial (xo_0 dX11_goesCasting_211 rfl trivial (xo_0 dX11_goesCasting_212 rfl trivial (xo_0 dX11_goesCasting_213 rfl trivial (xo_0 dX11_goesCasting_215 rfl trivial (xo_0 dX11_goesCasting_216 rfl trivial (xo_0 dX11_goesCasting_218 rfl trivial (xo_c rfl (xm_callV 8 hI ih_X11_goesCasting dX11_goesCasting_220 (Or.inl q2431) q2433 qs103 q145 q2434 rfl rfl (by decide +kernel) (by omega) (by decide)) (xo_n))))))))))))))))
theorem oX11_goesCasting_223 {Iv : xI} (hI : xm_good Iv) (d : Nat)  (ih_X11_goesCasting : xm_Ct Iv yX11_goesCasting (ws_ yX11_goesCasting cX11_goesCasting 8 none) (d + 9) 0 0 (S_X11_goesCasting d)): xm_okb Iv RX11 cX11_goesCasting false (d + 10) (lX11_goesCasting d) bX11_goesCasting_223 223 := xo_0 dX11_goesCasting_223 rfl trivial (xo_0 dX11_goesCasting_226 rfl rfl (xo_n))
theorem oX11_goesCasting_229 {Iv : xI} (hI : xm_good Iv) (d : Nat)  (ih_X11_goesCasting : xm_Ct Iv yX11_goesCasting (ws_ yX11_goesCasting cX11_goesCasting 8 none) (d + 9) 0 0 (S_X11_goesCasting d)): xm_okb Iv RX11 cX11_goesCasting false (d + 10) (lX11_goesCasting d) bX11_goesCasting_229 229 := xo_0 dX11_goesCasting_229 rfl trivial (xo_n)
theorem oX11_goesCasting {Iv : xI} (hI : xm_good Iv) (d : Nat)  (ih_X11_goesCasting : xm_Ct Iv yX11_goesCasting (ws_ yX11_goesCasting cX11_goesCasting 8 none) (d + 9) 0 0 (S_X11_goesCasting d)): ∀ q ∈ kX11_goesCasting, xm_okb Iv RX11 cX11_goesCasting false (d + 10) (lX11_goesCasting d) q.2 q.1 := by
  intro q hq
  simp only [List.mem_cons, List.not_mem_nil, or_false] at hq
  rcases hq with rfl | rfl | rfl | rfl | rfl | rfl | rfl | rfl | rfl | rfl | rfl | rfl
  · exact oX11_goesCasting_0 hI d  ih_X11_goesCasting
  · exact oX11_goesCasting_13 hI d  ih_X11_goesCasting
  · exact oX11_goesCasting_24 hI d  ih_X11_goesCasting
  · exact oX11_goesCasting_56 hI d  ih_X11_goesCasting
  · exact oX11_goesCasting_63 hI d  ih_X11_goesCasting
  · exact oX11_goesCasting_87 hI d  ih_X11_goesCasting
  · exact oX11_goesCasting_108 hI d  ih_X11_goesCasting
  · exact oX11_goesCasting_133 hI d  ih_X11_goesCasting
  · exact oX11_goesCasting_136 hI d  ih_X11_goesCasting
  · exact oX11_goesCasting_199 hI d  ih_X11_goesCasting
  · exact oX11_goesCasting_223 hI d  ih_X11_goesCasting
  · exact oX11_goesCasting_229 hI d  ih_X11_goesCasting
theorem t_pre_len {pre : List Int32} {s : gC} {k : Nat} : (g_done s pre).2.2.1 k = (if s.1 = 0 then pre.getD k (nI 0) else s.2.2.1 k) ∧ (g_done s pre).2.2.2 k = s.2.2.2 k ||| pre.getD k (nI 0) := by
  refine ⟨?_, rfl⟩
  unfold g_done
  by_cases h : s.1 = 0
  · simp [h]
  · simp [h]
theorem body_X11_goesCasting (d : Nat) : xm_Body 8 2 0 0 [] (lX11_goesCasting d) kX11_goesCasting (S_X11_goesCasting (d + 1)) := by
  intro X avs w Q QX hX0 hS
  have hG := xm_go [] hX0
  have hX := xm_go [13,24,136] hX0
  clear hX0
  obtain ⟨I, rfl, row, A, rest, pre, al, one, s, rfl, hr, hg, hA, hd, h12, hP, hcp, hs, hpre, hbd, hQ⟩ := hS
  have hok := hg.1
  obtain ⟨hn, h9, hm, h8, -⟩ := id hok
  have hm51 := hcp.1
  have hs1 := t_bd_lt hbd
  have hlen : pre.length ≤ (A ++ rest).length := by rw [List.length_append]; omega
  -- a cast is whole
  have l1 : rest = [] → (one = true → s.1 = 0) → ∀ k, k ≤ pre.length → ∀ M, t_cf I M → M 48 = I 48 → M 0 = I 0 → (∀ j, j < k → M 49 j = (g_done s pre).2.2.1 j ∧ M 50 j = (g_done s pre).2.2.2 j) → (∀ j, k ≤ j → j < pre.length → M 49 j = s.2.2.1 j ∧ M 50 j = s.2.2.2 j) → X 24 [some (.ref 0), some (.ref row), some (.int (nI pre.length)), some (.int (g_un pre)), some (.int al), some (.int (t_b one)), some (.int (nI k)), none] [] (tW M) 0 0 := by
    intro hre hw
    subst hre
    rw [List.append_nil] at hcp hs hQ h12 hP hlen hm51
    refine t_for fun k h1 ih M hM e48 e0 hlo hhi => ?_
    have m51 : M 0 51 = nI pre.length := by rw [e0, hm51, hA]
    have m52 : M 0 52 = nI s.1 := by rw [e0, hs.1]
    have m53 : M 0 53 = s.2.1 := by rw [e0, hs.2.1]
    refine hG _ _ _ _ _ _ ?_
    (conv => whnf)
    repeat' (first
      | ((with_reducible refine @And.intro (vp_in _ _) _ ?_ ?_); (· (first | with_reducible assumption | ((with_reducible refine t_vin ?_); decide) | ((with_reducible refine vp_in_nI ?_ ?_) <;> first | omega | decide) | (simp (disch := omega) only [xl_n, xl_m, nI_dec, nI_sb, nI_add, pk_mul]; (with_reducible refine vp_in_nI ?_ ?_) <;> first | omega | decide))); (conv => whnf))
      | (refine And.intro (by first | with_reducible assumption | exact (show tL _ = _ from rfl) | decide) ?_; (conv => whnf))
      | ((with_reducible refine @And.intro (_ = _) _ ?_ ?_); (· rfl); (conv => whnf))
      | ((with_reducible refine @And.intro (@LE.le Nat _ _ _) _ ?_ ?_); (· (first | exact Nat.zero_le _ | exact Nat.le_of_ble_eq_true rfl | omega)); (conv => whnf))
      | ((with_reducible refine @And.intro (@LT.lt Nat _ _ _) _ ?_ ?_); (· omega); (conv => whnf))
      | ((with_reducible refine @And.intro (∃ _, _ = _) _ ?_ ?_); (· exact ⟨_, rfl⟩); (conv => whnf))
      | ((with_reducible refine @And.intro (_ ∨ _) _ ?_ ?_); (· (first | exact Or.inl rfl | exact Or.inr rfl | exact t_b01 _ | assumption)); (conv => whnf))
      | ((with_reducible refine @And.intro (¬ (_ = _)) _ ?_ ?_); (· first | assumption | (with_reducible assumption)); (conv => whnf))
      | (refine hX _ _ _ _ _ _ ?_; (conv => whnf); fail_if_success show False)
      | (rw [t_si]; (conv => whnf))
      | (refine ⟨_, rfl, ?_⟩; (conv => whnf))
      | (refine ⟨_, _, rfl, ?_⟩; (conv => whnf))
      | (refine ⟨_, _, _, rfl, ?_⟩; (conv => whnf))
      | (refine ⟨_, _, _, _, rfl, ?_⟩; (conv => whnf))
      | fail)
    refine And.intro (fun c => ?_) (fun c => ?_) <;> (conv => whnf)
    · have : k = pre.length := Nat.le_antisymm h1 (t_kge m51 c (by omega) (by omega))
      subst this
      repeat' (first
        | ((with_reducible refine @And.intro (vp_in _ _) _ ?_ ?_); (· (first | with_reducible assumption | ((with_reducible refine t_vin ?_); decide) | ((with_reducible refine vp_in_nI ?_ ?_) <;> first | omega | decide) | (simp (disch := omega) only [xl_n, xl_m, nI_dec, nI_sb, nI_add, pk_mul]; (with_reducible refine vp_in_nI ?_ ?_) <;> first | omega | decide))); (conv => whnf))
        | (refine And.intro (by first | with_reducible assumption | exact (show tL _ = _ from rfl) | decide) ?_; (conv => whnf))
        | ((with_reducible refine @And.intro (_ = _) _ ?_ ?_); (· rfl); (conv => whnf))
        | ((with_reducible refine @And.intro (@LE.le Nat _ _ _) _ ?_ ?_); (· (first | exact Nat.zero_le _ | exact Nat.le_of_ble_eq_true rfl | omega)); (conv => whnf))
        | ((with_reducible refine @And.intro (@LT.lt Nat _ _ _) _ ?_ ?_); (· omega); (conv => whnf))
        | ((with_reducible refine @And.intro (∃ _, _ = _) _ ?_ ?_); (· exact ⟨_, rfl⟩); (conv => whnf))
        | ((with_reducible refine @And.intro (_ ∨ _) _ ?_ ?_); (· (first | exact Or.inl rfl | exact Or.inr rfl | exact t_b01 _ | assumption)); (conv => whnf))
        | ((with_reducible refine @And.intro (¬ (_ = _)) _ ?_ ?_); (· first | assumption | (with_reducible assumption)); (conv => whnf))
        | (refine hX _ _ _ _ _ _ ?_; (conv => whnf); fail_if_success show False)
        | (rw [t_si]; simp (disch := omega) only [xl_n, xl_m, nI_dec, nI_sb, xl_0, xl_1, tW_i, t_bn0, t_bn1, Classical.not_not, t_lt, nI_add, nI_1, pk_mul, nI_clamp, t_si, nI_eq, nI_leI, nM_ne, nM_ne, xm_u2_ne, xm_u2_at, reduceIte, tK_u, tA_u, Nat.reduceEqDiff]; (conv => whnf))
        | (refine ⟨_, rfl, ?_⟩; (conv => whnf))
        | (refine ⟨_, _, rfl, ?_⟩; (conv => whnf))
        | (refine ⟨_, _, _, rfl, ?_⟩; (conv => whnf))
        | (refine ⟨_, _, _, _, rfl, ?_⟩; (conv => whnf))
        | (refine And.intro (fun c => ?_) (fun c => ?_) <;> (first | (exact absurd c (by decide +kernel)) | (conv => whnf)))
        | fail)
      clear hX hG ih
      refine hQ _ (hM.tr ((t_cf.uf (Or.inl rfl)).tr (t_cf.uf (Or.inr rfl)))) (fun j hj => ?_) ?_
      · rw [xm_u2_ne (by decide), xm_u2_ne (by decide), e48]
      · rw [g_cs_n, List.map_cons, List.map_nil, List.append_nil, g_cast_1 one hw]
        refine ⟨?_, ?_, fun j hj => ?_⟩
        · rw [xm_u2_at, if_neg (by decide), xm_u2_at, if_pos rfl, m52, nI_add]
          rfl
        · rw [xm_u2_at, if_pos rfl, m53]
          rfl
        · rw [xm_u2_ne (by decide), xm_u2_ne (by decide), xm_u2_ne (by decide), xm_u2_ne (by decide)]
          exact hlo j (by omega)
    · have hk : k < pre.length := t_klt m51 c (by omega)
      have v48 : M 48 k = pre.getD k (nI 0) := by
        rw [e48, hpre k pre[k] (List.getElem?_eq_getElem hk)]
        simp [List.getD, hk]
      obtain ⟨q1, q2⟩ := hhi k (Nat.le_refl _) hk
      obtain ⟨d1, d2⟩ := t_pre_len (pre := pre) (s := s) (k := k)
      have nx := ih (k + 1) (by omega) (by omega) (xm_u2 (xm_u2 M 49 k ((g_done s pre).2.2.1 k)) 50 k ((g_done s pre).2.2.2 k)) (hM.tr ((t_cf.u (by omega)).tr (t_cf.u (by omega)))) (by rw [← e48]; exact funext fun j => by rw [xm_u2_ne (by decide), xm_u2_ne (by decide)]) (by rw [← e0]; exact funext fun j => by rw [xm_u2_ne (by decide), xm_u2_ne (by decide)]) (fun j hj => by
        rw [xm_u2_ne (by decide), xm_u2_at, xm_u2_at]
        by_cases e : j = k
        · rw [if_pos e, if_pos e, e]
          exact ⟨rfl, rfl⟩
        · rw [if_neg e, if_neg e, xm_u2_ne (by decide)]
          exact hlo j (by omega)) (fun j hj hj2 => by
        rw [xm_u2_ne (by decide), xm_u2_at, xm_u2_at, if_neg (by omega), if_neg (by omega), xm_u2_ne (by decide)]
        exact hhi j (by omega) hj2)
      rw [d1, d2] at nx
      clear ih
      repeat' (first
        | ((with_reducible refine @And.intro (vp_in _ _) _ ?_ ?_); (· (first | with_reducible assumption | ((with_reducible refine t_vin ?_); decide) | ((with_reducible refine vp_in_nI ?_ ?_) <;> first | omega | decide) | (simp (disch := omega) only [xl_n, xl_m, nI_dec, nI_sb, nI_add, pk_mul]; (with_reducible refine vp_in_nI ?_ ?_) <;> first | omega | decide))); (conv => whnf))
        | (refine And.intro (by first | with_reducible assumption | exact (show tL _ = _ from rfl) | decide) ?_; (conv => whnf))
        | ((with_reducible refine @And.intro (_ = _) _ ?_ ?_); (· rfl); (conv => whnf))
        | ((with_reducible refine @And.intro (@LE.le Nat _ _ _) _ ?_ ?_); (· (first | exact Nat.zero_le _ | exact Nat.le_of_ble_eq_true rfl | omega)); (conv => whnf))
        | ((with_reducible refine @And.intro (@LT.lt Nat _ _ _) _ ?_ ?_); (· omega); (conv => whnf))
        | ((with_reducible refine @And.intro (∃ _, _ = _) _ ?_ ?_); (· exact ⟨_, rfl⟩); (conv => whnf))
        | ((with_reducible refine @And.intro (_ ∨ _) _ ?_ ?_); (· (first | exact Or.inl rfl | exact Or.inr rfl | exact t_b01 _ | assumption)); (conv => whnf))
        | ((with_reducible refine @And.intro (¬ (_ = _)) _ ?_ ?_); (· first | assumption | (with_reducible assumption)); (conv => whnf))
        | (refine hX _ _ _ _ _ _ ?_; (conv => whnf); fail_if_success show False)
        | (rw [t_si]; simp (disch := omega) only [xl_n, xl_m, nI_dec, nI_sb, xl_0, xl_1, tW_i, t_bn0, t_bn1, Classical.not_not, t_lt, nI_add, nI_1, pk_mul, nI_clamp, t_si, nI_eq, nI_leI, nM_ne, nM_ne, xm_u2_ne, xm_u2_at, reduceIte, tK_u, tA_u, Nat.reduceEqDiff]; (conv => whnf))
        | (refine ⟨_, rfl, ?_⟩; (conv => whnf))
        | (refine ⟨_, _, rfl, ?_⟩; (conv => whnf))
        | (refine ⟨_, _, _, rfl, ?_⟩; (conv => whnf))
        | (refine ⟨_, _, _, _, rfl, ?_⟩; (conv => whnf))
        | (refine And.intro (fun c => ?_) (fun c => ?_) <;> (first | (exact absurd c (by decide +kernel)) | (conv => whnf)))
        | fail)
      · have c' : ¬ M 0 52 = 0 := by assumption
        rw [m52] at c'
        rw [if_neg (fun h => c' (by rw [h]; exact nI_0)), ← q1, ← q2, ← v48] at nx
        clear hX hG hQ
        simp (disch := omega) only [xl_n, xl_m, nI_dec, nI_sb, xl_0, xl_1, tW_i, t_bn0, t_bn1, Classical.not_not, t_lt, nI_add, nI_1, pk_mul, nI_clamp, t_si, nI_eq, nI_leI, nM_ne, nM_ne, xm_set, xm_lv0, xm_psh] at *
        exact nx
      · have c' : M 0 52 = 0 := Classical.not_not.mp (by assumption)
        rw [m52, ← nI_0, nI_eq hs1 (by omega)] at c'
        rw [if_pos c', ← q2, ← v48] at nx
        clear hX hG hQ
        simp (disch := omega) only [xl_n, xl_m, nI_dec, nI_sb, xl_0, xl_1, tW_i, t_bn0, t_bn1, Classical.not_not, t_lt, nI_add, nI_1, pk_mul, nI_clamp, t_si, nI_eq, nI_leI, nM_ne, nM_ne, xm_set, xm_lv0, xm_psh] at *
        exact nx
  -- set by set
  have l2 : ∀ p l r, rest = (p, l) :: r → l ≤ gs (tA I row) p → (one = true → s.1 = 0) → ∀ k, k ≤ g_all (tG I) → ∀ M, t_cf I M → (∀ j, j < pre.length → M 48 j = I 48 j) → t_cst M (A ++ rest).length (g_cast one (g_part (tG I) (tA I row) al p r (g_un pre) pre k) s) → X 136 [some (.ref 0), some (.ref row), some (.int (nI pre.length)), some (.int (g_un pre)), some (.int al), some (.int (t_b one)), some (.int (nI p)), some (.int (nI (k + 1)))] [] (tW M) 0 0 := by
    intro p l r hre hl hw
    subst hre
    obtain ⟨d', rfl⟩ : ∃ d', d = d' + 1 := ⟨d - 1, by simp at hd; omega⟩
    have hp : p < t_p I := hP (p, l) (by simp)
    have eall : ∀ M, t_sp I M → nI 1 <<< (M 12 0 &&& 31) = nI (g_all (tG I) + 1) := fun M hM => by
      rw [hM.1 12 (by decide) (t_nf (by omega)), hn, t_2n _ h9]
      show _ = nI (2 ^ t_h I - 1 + 1)
      have : 0 < 2 ^ t_h I := Nat.pow_pos (by omega)
      rw [Nat.sub_add_cancel this]
    have hal : g_all (tG I) ≤ 511 := g_all_le h9
    refine t_for fun k h1 ih M hM h48 hs' => ?_
    have hMs := hM.sp
    have hgM := hMs.good hg
    have eG : tG M = tG I := hMs.G hg
    have ea := eall M hMs
    refine hG _ _ _ _ _ _ ?_
    (conv => whnf)
    repeat' (first
      | ((with_reducible refine @And.intro (vp_in _ _) _ ?_ ?_); (· (first | with_reducible assumption | ((with_reducible refine t_vin ?_); decide) | ((with_reducible refine vp_in_nI ?_ ?_) <;> first | omega | decide) | (simp (disch := omega) only [xl_n, xl_m, nI_dec, nI_sb, nI_add, pk_mul]; (with_reducible refine vp_in_nI ?_ ?_) <;> first | omega | decide))); (conv => whnf))
      | (refine And.intro (by first | with_reducible assumption | exact (show tL _ = _ from rfl) | decide) ?_; (conv => whnf))
      | ((with_reducible refine @And.intro (_ = _) _ ?_ ?_); (· rfl); (conv => whnf))
      | ((with_reducible refine @And.intro (@LE.le Nat _ _ _) _ ?_ ?_); (· (first | exact Nat.zero_le _ | exact Nat.le_of_ble_eq_true rfl | omega)); (conv => whnf))
      | ((with_reducible refine @And.intro (@LT.lt Nat _ _ _) _ ?_ ?_); (· omega); (conv => whnf))
      | ((with_reducible refine @And.intro (∃ _, _ = _) _ ?_ ?_); (· exact ⟨_, rfl⟩); (conv => whnf))
      | ((with_reducible refine @And.intro (_ ∨ _) _ ?_ ?_); (· (first | exact Or.inl rfl | exact Or.inr rfl | exact t_b01 _ | assumption)); (conv => whnf))
      | ((with_reducible refine @And.intro (¬ (_ = _)) _ ?_ ?_); (· first | assumption | (with_reducible assumption)); (conv => whnf))
      | (refine hX _ _ _ _ _ _ ?_; (conv => whnf); fail_if_success show False)
      | (rw [t_si]; (conv => whnf))
      | (refine ⟨_, rfl, ?_⟩; (conv => whnf))
      | (refine ⟨_, _, rfl, ?_⟩; (conv => whnf))
      | (refine ⟨_, _, _, rfl, ?_⟩; (conv => whnf))
      | (refine ⟨_, _, _, _, rfl, ?_⟩; (conv => whnf))
      | fail)
    refine And.intro (fun c => ?_) (fun c => ?_) <;> (conv => whnf)
    · have : k = g_all (tG I) := by
        have c' : nI 1 <<< (M 12 0 &&& 31) ≤ nI (k + 1) := c
        rw [ea, nI_leI (by omega) (by omega)] at c'
        omega
      subst this
      repeat' (first
        | ((with_reducible refine @And.intro (vp_in _ _) _ ?_ ?_); (· (first | with_reducible assumption | ((with_reducible refine t_vin ?_); decide) | ((with_reducible refine vp_in_nI ?_ ?_) <;> first | omega | decide) | (simp (disch := omega) only [xl_n, xl_m, nI_dec, nI_sb, nI_add, pk_mul]; (with_reducible refine vp_in_nI ?_ ?_) <;> first | omega | decide))); (conv => whnf))
        | (refine And.intro (by first | with_reducible assumption | exact (show tL _ = _ from rfl) | decide) ?_; (conv => whnf))
        | ((with_reducible refine @And.intro (_ = _) _ ?_ ?_); (· rfl); (conv => whnf))
        | ((with_reducible refine @And.intro (@LE.le Nat _ _ _) _ ?_ ?_); (· (first | exact Nat.zero_le _ | exact Nat.le_of_ble_eq_true rfl | omega)); (conv => whnf))
        | ((with_reducible refine @And.intro (@LT.lt Nat _ _ _) _ ?_ ?_); (· omega); (conv => whnf))
        | ((with_reducible refine @And.intro (∃ _, _ = _) _ ?_ ?_); (· exact ⟨_, rfl⟩); (conv => whnf))
        | ((with_reducible refine @And.intro (_ ∨ _) _ ?_ ?_); (· (first | exact Or.inl rfl | exact Or.inr rfl | exact t_b01 _ | assumption)); (conv => whnf))
        | ((with_reducible refine @And.intro (¬ (_ = _)) _ ?_ ?_); (· first | assumption | (with_reducible assumption)); (conv => whnf))
        | (refine hX _ _ _ _ _ _ ?_; (conv => whnf); fail_if_success show False)
        | (rw [t_si]; (conv => whnf))
        | (refine ⟨_, rfl, ?_⟩; (conv => whnf))
        | (refine ⟨_, _, rfl, ?_⟩; (conv => whnf))
        | (refine ⟨_, _, _, rfl, ?_⟩; (conv => whnf))
        | (refine ⟨_, _, _, _, rfl, ?_⟩; (conv => whnf))
        | (refine And.intro (fun c => ?_) (fun c => ?_) <;> (first | (exact absurd c (by decide +kernel)) | (conv => whnf)))
        | fail)
      refine hQ M hM h48 ?_
      rw [g_cs_c, if_pos hl]
      exact hs'
    · have hk : k < g_all (tG I) := by
        have c' : ¬ nI 1 <<< (M 12 0 &&& 31) ≤ nI (k + 1) := c
        rw [ea, nI_leI (by omega) (by omega)] at c'
        omega
      have eK : tK M = tK I := hMs.same.K hg
      have epM : t_p M = t_p I := t_p_eq (hMs.fx 12 (Or.inl rfl))
      have hpM : p < t_p M := by rw [epM]; exact hp
      have e130 : M (130 + p) 1 = gneeds (gGK (tG I)) p := by rw [← eG]; exact (tK_needs hpM).symm
      have e16 : M 16 p = gquar (gGK (tG I)) p := by rw [← eG]; exact (tK_quar hpM).symm
      have stay : g_can (tG I) al (g_un pre) p (nI (k + 1)) = false → X 136 [some (.ref 0), some (.ref row), some (.int (nI pre.length)), some (.int (g_un pre)), some (.int al), some (.int (t_b one)), some (.int (nI p)), some (.int (nI (k + 1 + 1)))] [] (tW M) 0 0 := fun e => by
        refine ih (k + 1) (by omega) (by omega) M hM h48 ?_
        rw [g_part_s, e]
        exact hs'
      have hp12 : pre.length < 12 := by
        rw [List.length_append, List.length_cons] at h12
        omega
      repeat' (first
        | ((with_reducible refine @And.intro (vp_in _ _) _ ?_ ?_); (· (first | with_reducible assumption | ((with_reducible refine t_vin ?_); decide) | ((with_reducible refine vp_in_nI ?_ ?_) <;> first | omega | decide) | (simp (disch := omega) only [xl_n, xl_m, nI_dec, nI_sb, nI_add, pk_mul]; (with_reducible refine vp_in_nI ?_ ?_) <;> first | omega | decide))); (conv => whnf))
        | (refine And.intro (by first | with_reducible assumption | exact (show tL _ = _ from rfl) | decide) ?_; (conv => whnf))
        | ((with_reducible refine @And.intro (_ = _) _ ?_ ?_); (· rfl); (conv => whnf))
        | ((with_reducible refine @And.intro (@LE.le Nat _ _ _) _ ?_ ?_); (· (first | exact Nat.zero_le _ | exact Nat.le_of_ble_eq_true rfl | omega)); (conv => whnf))
        | ((with_reducible refine @And.intro (@LT.lt Nat _ _ _) _ ?_ ?_); (· omega); (conv => whnf))
        | ((with_reducible refine @And.intro (∃ _, _ = _) _ ?_ ?_); (· exact ⟨_, rfl⟩); (conv => whnf))
        | ((with_reducible refine @And.intro (_ ∨ _) _ ?_ ?_); (· (first | exact Or.inl rfl | exact Or.inr rfl | exact t_b01 _ | assumption)); (conv => whnf))
        | ((with_reducible refine @And.intro (¬ (_ = _)) _ ?_ ?_); (· first | assumption | (with_reducible assumption)); (conv => whnf))
        | (refine hX _ _ _ _ _ _ ?_; (conv => whnf); fail_if_success show False)
        | (rw [t_si]; (conv => whnf))
        | (refine ⟨_, rfl, ?_⟩; (conv => whnf))
        | (refine ⟨_, _, rfl, ?_⟩; (conv => whnf))
        | (refine ⟨_, _, _, rfl, ?_⟩; (conv => whnf))
        | (refine ⟨_, _, _, _, rfl, ?_⟩; (conv => whnf))
        | (rw [t_l130 (by first | with_reducible assumption | omega | exact vp_lt (by assumption) | (rw [nI_clamp (by omega)]; omega))]; (conv => whnf))
        | (refine And.intro (fun c => ?_) (fun c => ?_) <;> (first | (exact absurd c (by decide +kernel)) | (conv => whnf)))
        | fail)
      · have c1 : ¬ t_ones (nI (k + 1)) = M (130 + (nI p).toNatClampNeg) (Int32.ofInt 1).toNatClampNeg := by assumption
        rw [nI_clamp (by omega), show (Int32.ofInt 1).toNatClampNeg = 1 by decide +kernel, e130] at c1
        clear hX hG hQ
        simp (disch := omega) only [xl_n, xl_m, nI_dec, nI_sb, xl_0, xl_1, tW_i, t_bn0, t_bn1, Classical.not_not, t_lt, nI_add, nI_1, pk_mul, nI_clamp, t_si, nI_eq, nI_leI, nM_ne, nM_ne, xm_set, xm_lv0, xm_psh] at *
        exact stay (by unfold g_can; rw [decide_eq_false c1]; rfl)
      · have c2 : ¬ nI (k + 1) &&& (g_un pre ||| M 16 (nI p).toNatClampNeg ||| (al ^^^ Int32.ofInt (-1))) = 0 := by assumption
        rw [nI_clamp (by omega), e16, xl_m, ← nI_0] at c2
        clear hX hG hQ
        simp (disch := omega) only [xl_n, xl_m, nI_dec, nI_sb, xl_0, xl_1, tW_i, t_bn0, t_bn1, Classical.not_not, t_lt, nI_add, nI_1, pk_mul, nI_clamp, t_si, nI_eq, nI_leI, nM_ne, nM_ne, xm_set, xm_lv0, xm_psh] at *
        exact stay (by unfold g_can; rw [decide_eq_false c2, Bool.and_false]; rfl)
      · have c1 : t_ones (nI (k + 1)) = M (130 + (nI p).toNatClampNeg) (Int32.ofInt 1).toNatClampNeg := Classical.not_not.mp (by assumption)
        have c2 : nI (k + 1) &&& (g_un pre ||| M 16 (nI p).toNatClampNeg ||| (al ^^^ Int32.ofInt (-1))) = 0 := Classical.not_not.mp (by assumption)
        have c3 : ¬ t_b (!g_mutes (tG M) (g_un pre) (nI (k + 1)) (gn (gGK (tG M)))) = 0 := by assumption
        rw [nI_clamp (by omega), show (Int32.ofInt 1).toNatClampNeg = 1 by decide +kernel, e130] at c1
        rw [nI_clamp (by omega), e16, xl_m, ← nI_0] at c2
        rw [t_b0, eG, Bool.not_eq_false] at c3
        have can : g_can (tG I) al (g_un pre) p (nI (k + 1)) = true := by unfold g_can; rw [decide_eq_true c1, decide_eq_true c2, c3]; rfl
        have hAr : A ++ [(p, l)] ++ r = A ++ (p, l) :: r := by simp
        have hF : t_cf M (xm_u2 M 48 (nI pre.length).toNatClampNeg (nI (k + 1))) := t_cf.u (Or.inl rfl)
        have hF2 := hM.tr hF
        have e48 : (xm_u2 M 48 (nI pre.length).toNatClampNeg (nI (k + 1))) 48 pre.length = nI (k + 1) := by rw [nI_clamp (by omega), xm_u2_at, if_pos rfl]
        have o48 : ∀ j, j < pre.length → (xm_u2 M 48 (nI pre.length).toNatClampNeg (nI (k + 1))) 48 j = I 48 j := fun j hj => by rw [nI_clamp (by omega), xm_u2_at, if_neg (by omega), h48 j hj]
        have eG2 := hF2.sp.G hg
        have eA2 : tA (xm_u2 M 48 (nI pre.length).toNatClampNeg (nI (k + 1))) row = tA I row := tA_eq fun j _ => by
          have := t_row_in hr
          rw [hF2.1 row (by omega) (by omega) (by omega) (by omega)]
        refine ⟨row, A ++ [(p, l)], r, pre ++ [nI (k + 1)], al, one, g_cast one (g_part (tG I) (tA I row) al p r (g_un pre) pre k) s, ?_, hr, hF2.sp.good hg, ?_, ?_, ?_, ?_, ?_, ?_, ?_, ?_, ?_⟩
        · rw [g_un_a, List.length_append]
          show [_, _, Value.int (nI pre.length + Int32.ofInt 1), _, _, _] = _
          rw [xl_n.2.1, nI_add]
          rfl
        · rw [List.length_append, List.length_append, hA]
          rfl
        · simp at hd
          exact hd
        · rw [hAr]
          exact h12
        · rw [hAr, t_p_eq (hF2.1 12 (by decide) (by decide) (by decide) (by decide))]
          exact hP
        · rw [hAr]
          exact hF2.cp hcp
        · rw [hAr]
          obtain ⟨g1, g2, g3⟩ := hs'
          exact ⟨by rw [xm_u2_ne (by decide)]; exact g1, by rw [xm_u2_ne (by decide)]; exact g2, fun j hj => by rw [xm_u2_ne (by decide), xm_u2_ne (by decide)]; exact g3 j hj⟩
        · intro j v hv
          rcases Nat.lt_or_ge j pre.length with q | q
          · rw [List.getElem?_append_left q] at hv
            exact (o48 j q).trans (hpre j v hv)
          · have q2 := (List.getElem?_eq_some_iff.mp hv).1
            rw [List.length_append] at q2
            have q3 : j = pre.length := by simp at q2; omega
            subst q3
            simp at hv
            rw [← hv]
            exact e48
        · refine t_bd_cast hbd ?_
          have q1 := g_part_le (G := tG I) (T := tA I row) (al := al) (used := g_un pre) (p := p) (r := r) (pre := pre) (show k + 1 ≤ g_all (tG I) by omega)
          rw [g_part_s, if_pos can, List.length_append, List.length_map] at q1
          have q2 : (g_cs (tG I) (tA I row) al ((p, l) :: r) (g_un pre)).length = (g_part (tG I) (tA I row) al p r (g_un pre) pre (g_all (tG I))).length := by
            rw [g_cs_c, if_pos hl]
            unfold g_part
            rw [List.length_map]
          rw [q2]
          show _ + (g_cs (tG (xm_u2 M 48 (nI pre.length).toNatClampNeg (nI (k + 1)))) (tA (xm_u2 M 48 (nI pre.length).toNatClampNeg (nI (k + 1))) row) al r (g_un (pre ++ [nI (k + 1)]))).length ≤ _
          rw [eG2, eA2, g_un_a]
          exact q1
        · intro J hJ hJ48 hJs
          have hJs : t_cst J (A ++ [(p, l)] ++ r).length (g_cast one ((g_cs (tG (xm_u2 M 48 (nI pre.length).toNatClampNeg (nI (k + 1)))) (tA (xm_u2 M 48 (nI pre.length).toNatClampNeg (nI (k + 1))) row) al r (g_un (pre ++ [nI (k + 1)]))).map (fun x => pre ++ [nI (k + 1)] ++ x)) (g_cast one (g_part (tG I) (tA I row) al p r (g_un pre) pre k) s)) := hJs
          rw [eG2, eA2, g_un_a, hAr, ← g_cast_app] at hJs
          have := ih (k + 1) (by omega) (by omega) J (hF2.tr hJ) (fun j hj => (hJ48 j (by rw [List.length_append]; omega)).trans (o48 j hj)) (by
            rw [g_part_s, if_pos can]
            exact hJs)
          clear ih
          (conv => whnf)
          repeat' (first
            | ((with_reducible refine @And.intro (vp_in _ _) _ ?_ ?_); (· (first | with_reducible assumption | ((with_reducible refine t_vin ?_); decide) | ((with_reducible refine vp_in_nI ?_ ?_) <;> first | omega | decide) | (simp (disch := omega) only [xl_n, xl_m, nI_dec, nI_sb, nI_add, pk_mul]; (with_reducible refine vp_in_nI ?_ ?_) <;> first | omega | decide))); (conv => whnf))
            | (refine And.intro (by first | with_reducible assumption | exact (show tL _ = _ from rfl) | decide) ?_; (conv => whnf))
            | ((with_reducible refine @And.intro (_ = _) _ ?_ ?_); (· rfl); (conv => whnf))
            | ((with_reducible refine @And.intro (@LE.le Nat _ _ _) _ ?_ ?_); (· (first | exact Nat.zero_le _ | exact Nat.le_of_ble_eq_true rfl | omega)); (conv => whnf))
            | ((with_reducible refine @And.intro (@LT.lt Nat _ _ _) _ ?_ ?_); (· omega); (conv => whnf))
            | ((with_reducible refine @And.intro (∃ _, _ = _) _ ?_ ?_); (· exact ⟨_, rfl⟩); (conv => whnf))
            | ((with_reducible refine @And.intro (_ ∨ _) _ ?_ ?_); (· (first | exact Or.inl rfl | exact Or.inr rfl | exact t_b01 _ | assumption)); (conv => whnf))
            | ((with_reducible refine @And.intro (¬ (_ = _)) _ ?_ ?_); (· first | assumption | (with_reducible assumption)); (conv => whnf))
            | (refine hX _ _ _ _ _ _ ?_; (conv => whnf); fail_if_success show False)
            | (rw [t_si]; (conv => whnf))
            | (refine ⟨_, rfl, ?_⟩; (conv => whnf))
            | (refine ⟨_, _, rfl, ?_⟩; (conv => whnf))
            | (refine ⟨_, _, _, rfl, ?_⟩; (conv => whnf))
            | (refine ⟨_, _, _, _, rfl, ?_⟩; (conv => whnf))
            | (refine And.intro (fun c => ?_) (fun c => ?_) <;> (first | (exact absurd c (by decide +kernel)) | (conv => whnf)))
            | fail)
          clear hX hG hQ
          simp (disch := omega) only [xl_n, xl_m, nI_dec, nI_sb, xl_0, xl_1, tW_i, t_bn0, t_bn1, Classical.not_not, t_lt, nI_add, nI_1, pk_mul, nI_clamp, t_si, nI_eq, nI_leI, nM_ne, nM_ne, xm_set, xm_lv0, xm_psh] at *
          exact this
      · have c3 : t_b (!g_mutes (tG M) (g_un pre) (nI (k + 1)) (gn (gGK (tG M)))) = 0 := Classical.not_not.mp (by assumption)
        rw [t_b0, eG] at c3
        clear hX hG hQ
        simp (disch := omega) only [xl_n, xl_m, nI_dec, nI_sb, xl_0, xl_1, tW_i, t_bn0, t_bn1, Classical.not_not, t_lt, nI_add, nI_1, pk_mul, nI_clamp, t_si, nI_eq, nI_leI, nM_ne, nM_ne, xm_set, xm_lv0, xm_psh] at *
        exact stay (by unfold g_can; rw [c3, Bool.and_false])
  have main : (one = true → s.1 = 0) → X 13 [some (.ref 0), some (.ref row), some (.int (nI pre.length)), some (.int (g_un pre)), some (.int al), some (.int (t_b one)), none, none] [] (tW I) 0 0 := by
    intro hw
    rcases rest with _ | ⟨⟨p, l⟩, r⟩
    · have e51 : I 0 51 = nI pre.length := by rw [hm51, List.append_nil, hA]
      have := l1 rfl hw 0 (Nat.zero_le _) I t_cf.rf rfl rfl (fun j hj => by omega) (fun j _ hj => hs.2.2 j (by omega))
      clear l1 l2
      refine hG _ _ _ _ _ _ ?_
      (conv => whnf)
      repeat' (first
        | ((with_reducible refine @And.intro (vp_in _ _) _ ?_ ?_); (· (first | with_reducible assumption | ((with_reducible refine t_vin ?_); decide) | ((with_reducible refine vp_in_nI ?_ ?_) <;> first | omega | decide) | (simp (disch := omega) only [xl_n, xl_m, nI_dec, nI_sb, nI_add, pk_mul]; (with_reducible refine vp_in_nI ?_ ?_) <;> first | omega | decide))); (conv => whnf))
        | (refine And.intro (by first | with_reducible assumption | exact (show tL _ = _ from rfl) | decide) ?_; (conv => whnf))
        | ((with_reducible refine @And.intro (_ = _) _ ?_ ?_); (· rfl); (conv => whnf))
        | ((with_reducible refine @And.intro (@LE.le Nat _ _ _) _ ?_ ?_); (· (first | exact Nat.zero_le _ | exact Nat.le_of_ble_eq_true rfl | omega)); (conv => whnf))
        | ((with_reducible refine @And.intro (@LT.lt Nat _ _ _) _ ?_ ?_); (· omega); (conv => whnf))
        | ((with_reducible refine @And.intro (∃ _, _ = _) _ ?_ ?_); (· exact ⟨_, rfl⟩); (conv => whnf))
        | ((with_reducible refine @And.intro (_ ∨ _) _ ?_ ?_); (· (first | exact Or.inl rfl | exact Or.inr rfl | exact t_b01 _ | assumption)); (conv => whnf))
        | ((with_reducible refine @And.intro (¬ (_ = _)) _ ?_ ?_); (· first | assumption | (with_reducible assumption)); (conv => whnf))
        | (refine hX _ _ _ _ _ _ ?_; (conv => whnf); fail_if_success show False)
        | (rw [t_si]; (conv => whnf))
        | (refine ⟨_, rfl, ?_⟩; (conv => whnf))
        | (refine ⟨_, _, rfl, ?_⟩; (conv => whnf))
        | (refine ⟨_, _, _, rfl, ?_⟩; (conv => whnf))
        | (refine ⟨_, _, _, _, rfl, ?_⟩; (conv => whnf))
        | (refine And.intro (fun c => ?_) (fun c => ?_) <;> (first | (exact absurd c (by decide +kernel)) | (conv => whnf)))
        | fail)
      · exact absurd e51.symm (by assumption)
      · exact this
    · have hlen2 : (A ++ (p, l) :: r).length = pre.length + (r.length + 1) := by rw [List.length_append, List.length_cons, hA]
      have hp : p < t_p I := hP (p, l) (by simp)
      have hat : (A ++ (p, l) :: r)[pre.length]? = some (p, l) := by rw [← hA]; simp
      obtain ⟨e46, e47⟩ := hcp.2 _ _ _ hat
      have e46' : xm_fld (tW I) 46 (nI pre.length).toNatClampNeg 0 = .int (nI p) := by
        rw [nI_clamp (by omega)]
        exact congrArg Value.int e46
      have hp12 : pre.length < 12 := by omega
      have x2 := fun hl => l2 p l r rfl hl hw 0 (Nat.zero_le _) I t_cf.rf (fun _ _ => rfl) (by
        show t_cst I _ (g_cast one [] s)
        rw [g_cast_0]
        exact hs)
      clear l1 l2
      refine hG _ _ _ _ _ _ ?_
      (conv => whnf)
      repeat' (first
        | ((with_reducible refine @And.intro (vp_in _ _) _ ?_ ?_); (· (first | with_reducible assumption | ((with_reducible refine t_vin ?_); decide) | ((with_reducible refine vp_in_nI ?_ ?_) <;> first | omega | decide) | (simp (disch := omega) only [xl_n, xl_m, nI_dec, nI_sb, nI_add, pk_mul]; (with_reducible refine vp_in_nI ?_ ?_) <;> first | omega | decide))); (conv => whnf))
        | (refine And.intro (by first | with_reducible assumption | exact (show tL _ = _ from rfl) | decide) ?_; (conv => whnf))
        | ((with_reducible refine @And.intro (_ = _) _ ?_ ?_); (· rfl); (conv => whnf))
        | ((with_reducible refine @And.intro (@LE.le Nat _ _ _) _ ?_ ?_); (· (first | exact Nat.zero_le _ | exact Nat.le_of_ble_eq_true rfl | omega)); (conv => whnf))
        | ((with_reducible refine @And.intro (@LT.lt Nat _ _ _) _ ?_ ?_); (· omega); (conv => whnf))
        | ((with_reducible refine @And.intro (∃ _, _ = _) _ ?_ ?_); (· exact ⟨_, rfl⟩); (conv => whnf))
        | ((with_reducible refine @And.intro (_ ∨ _) _ ?_ ?_); (· (first | exact Or.inl rfl | exact Or.inr rfl | exact t_b01 _ | assumption)); (conv => whnf))
        | ((with_reducible refine @And.intro (¬ (_ = _)) _ ?_ ?_); (· first | assumption | (with_reducible assumption)); (conv => whnf))
        | (refine hX _ _ _ _ _ _ ?_; (conv => whnf); fail_if_success show False)
        | (rw [t_si]; (conv => whnf))
        | (refine ⟨_, rfl, ?_⟩; (conv => whnf))
        | (refine ⟨_, _, rfl, ?_⟩; (conv => whnf))
        | (refine ⟨_, _, _, rfl, ?_⟩; (conv => whnf))
        | (refine ⟨_, _, _, _, rfl, ?_⟩; (conv => whnf))
        | (rw [t_lrow hr]; (conv => whnf))
        | (rw [e46']; (conv => whnf))
        | (refine And.intro (fun c => ?_) (fun c => ?_) <;> (first | (exact absurd c (by decide +kernel)) | (conv => whnf)))
        | fail)
      simp (disch := omega) only [xl_n, xl_m, nI_dec, nI_sb, xl_0, xl_1, tW_i, t_bn0, t_bn1, Classical.not_not, t_lt, nI_add, nI_1, pk_mul, nI_clamp, t_si, nI_eq, nI_leI, nM_ne, nM_ne, xm_u2_ne, xm_u2_at, reduceIte, tK_u, tA_u, Nat.reduceEqDiff, e46]
      repeat' (first
        | ((with_reducible refine @And.intro (vp_in _ _) _ ?_ ?_); (· (first | with_reducible assumption | ((with_reducible refine t_vin ?_); decide) | ((with_reducible refine vp_in_nI ?_ ?_) <;> first | omega | decide) | (simp (disch := omega) only [xl_n, xl_m, nI_dec, nI_sb, nI_add, pk_mul]; (with_reducible refine vp_in_nI ?_ ?_) <;> first | omega | decide))); (conv => whnf))
        | (refine And.intro (by first | with_reducible assumption | exact (show tL _ = _ from rfl) | decide) ?_; (conv => whnf))
        | ((with_reducible refine @And.intro (_ = _) _ ?_ ?_); (· rfl); (conv => whnf))
        | ((with_reducible refine @And.intro (@LE.le Nat _ _ _) _ ?_ ?_); (· (first | exact Nat.zero_le _ | exact Nat.le_of_ble_eq_true rfl | omega)); (conv => whnf))
        | ((with_reducible refine @And.intro (@LT.lt Nat _ _ _) _ ?_ ?_); (· omega); (conv => whnf))
        | ((with_reducible refine @And.intro (∃ _, _ = _) _ ?_ ?_); (· exact ⟨_, rfl⟩); (conv => whnf))
        | ((with_reducible refine @And.intro (_ ∨ _) _ ?_ ?_); (· (first | exact Or.inl rfl | exact Or.inr rfl | exact t_b01 _ | assumption)); (conv => whnf))
        | ((with_reducible refine @And.intro (¬ (_ = _)) _ ?_ ?_); (· first | assumption | (with_reducible assumption)); (conv => whnf))
        | (refine hX _ _ _ _ _ _ ?_; (conv => whnf); fail_if_success show False)
        | (rw [t_si]; (conv => whnf))
        | (refine ⟨_, rfl, ?_⟩; (conv => whnf))
        | (refine ⟨_, _, rfl, ?_⟩; (conv => whnf))
        | (refine ⟨_, _, _, rfl, ?_⟩; (conv => whnf))
        | (refine ⟨_, _, _, _, rfl, ?_⟩; (conv => whnf))
        | (rw [t_lrow hr]; (conv => whnf))
        | (refine And.intro (fun c => ?_) (fun c => ?_) <;> (first | (exact absurd c (by decide +kernel)) | (conv => whnf)))
        | fail)
      · have c' : I 47 (nI pre.length).toNatClampNeg ≤ I row (9 + p) := by assumption
        rw [nI_clamp (by omega), e47] at c'
        have := x2 (by rw [tA_gs (by omega)]; exact c')
        clear hX hG hQ x2
        simp (disch := omega) only [xl_n, xl_m, nI_dec, nI_sb, xl_0, xl_1, tW_i, t_bn0, t_bn1, Classical.not_not, t_lt, nI_add, nI_1, pk_mul, nI_clamp, t_si, nI_eq, nI_leI, nM_ne, nM_ne, xm_set, xm_lv0, xm_psh] at *
        exact this
      · have c' : ¬ I 47 (nI pre.length).toNatClampNeg ≤ I row (9 + p) := by assumption
        rw [nI_clamp (by omega), e47] at c'
        refine hQ I t_cf.rf (fun _ _ => rfl) ?_
        rw [g_cs_c, if_neg (by rw [tA_gs (by omega)]; exact c'), List.map_nil, g_cast_0]
        exact hs
      · have c' : nI pre.length = I 0 51 := Classical.not_not.mp (by assumption)
        rw [hm51, hlen2, nI_eq (by omega) (by omega)] at c'
        omega
  refine ⟨rfl, ?_⟩
  repeat' (first
    | ((with_reducible refine @And.intro (vp_in _ _) _ ?_ ?_); (· (first | with_reducible assumption | ((with_reducible refine t_vin ?_); decide) | ((with_reducible refine vp_in_nI ?_ ?_) <;> first | omega | decide) | (simp (disch := omega) only [xl_n, xl_m, nI_dec, nI_sb, nI_add, pk_mul]; (with_reducible refine vp_in_nI ?_ ?_) <;> first | omega | decide))); (conv => whnf))
    | (refine And.intro (by first | with_reducible assumption | exact (show tL _ = _ from rfl) | decide) ?_; (conv => whnf))
    | ((with_reducible refine @And.intro (_ = _) _ ?_ ?_); (· rfl); (conv => whnf))
    | ((with_reducible refine @And.intro (@LE.le Nat _ _ _) _ ?_ ?_); (· (first | exact Nat.zero_le _ | exact Nat.le_of_ble_eq_true rfl | omega)); (conv => whnf))
    | ((with_reducible refine @And.intro (@LT.lt Nat _ _ _) _ ?_ ?_); (· omega); (conv => whnf))
    | ((with_reducible refine @And.intro (∃ _, _ = _) _ ?_ ?_); (· exact ⟨_, rfl⟩); (conv => whnf))
    | ((with_reducible refine @And.intro (_ ∨ _) _ ?_ ?_); (· (first | exact Or.inl rfl | exact Or.inr rfl | exact t_b01 _ | assumption)); (conv => whnf))
    | ((with_reducible refine @And.intro (¬ (_ = _)) _ ?_ ?_); (· first | assumption | (with_reducible assumption)); (conv => whnf))
    | (refine hX _ _ _ _ _ _ ?_; (conv => whnf); fail_if_success show False)
    | (rw [t_si]; (conv => whnf))
    | (refine ⟨_, rfl, ?_⟩; (conv => whnf))
    | (refine ⟨_, _, rfl, ?_⟩; (conv => whnf))
    | (refine ⟨_, _, _, rfl, ?_⟩; (conv => whnf))
    | (refine ⟨_, _, _, _, rfl, ?_⟩; (conv => whnf))
    | (refine And.intro (fun c => ?_) (fun c => ?_) <;> (first | (exact absurd c (by decide +kernel)) | (conv => whnf)))
    | fail)
  · exact main (fun h => by
      have c' : t_b one = 0 := by assumption
      rw [t_b0, h] at c'
      cases c')
  · exact main (fun h => by
      have c' : I 0 52 ≤ 0 := by assumption
      rw [hs.1, ← nI_0, nI_leI hs1 (by omega)] at c'
      omega)
  · have c1 : ¬ t_b one = 0 := by assumption
    have c' : ¬ I 0 52 ≤ 0 := by assumption
    rw [t_b0, Bool.not_eq_false] at c1
    rw [hs.1, ← nI_0, nI_leI hs1 (by omega)] at c'
    subst c1
    refine hQ I t_cf.rf (fun _ _ => rfl) ?_
    rw [g_cast_stop (by omega)]
    exact hs
theorem ct_X11_goesCasting {Iv : xI} (hI : xm_good Iv) : ∀ d, xm_Ct Iv yX11_goesCasting (ws_ yX11_goesCasting cX11_goesCasting 8 none) (d + 9) 0 0 (S_X11_goesCasting d)
  | 0 => xm_ct0
  | d + 1 => xm_enter (rt := 2) (init := false) (by decide +kernel) rfl (fun h => by cases h) (Or.inr (Or.inr (Or.inl ⟨rfl, rfl⟩))) (oX11_goesCasting hI d (ct_X11_goesCasting hI d)) (body_X11_goesCasting d)
theorem cv_X11_goesCasting {Iv : xI} {own : String} {cc : ByteArray} {fr pc idx : Nat} (hI : xm_good Iv) (hdg : decode cc pc = .ok (.invokevirtual idx, 3)) (hl : xm_ml own idx yX11_goesCasting) (hfr : 22 < fr) : xm_CallOK Iv own cc fr pc (pc + 3) 6 0 0 (xm_this 8 (S_X11_goesCasting 13)) := xm_callV 8 hI (ct_X11_goesCasting hI 13) hdg hl q2433 qs103 q145 q2434 rfl rfl (by decide +kernel) hfr (by decide)

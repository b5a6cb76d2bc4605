/-! ===== the x machine is right ===== -/
set_option maxRecDepth 100000
section XM3
variable {p : Program} {l : Launch} {e : Env} {R : Room} {s : State} {m : MethodId} {args : Array Value} {below : List Frame} {meth : Method} {c : Code} {Qf : State → Prop} {D : va_G} {dA : Nat → ClassId} {b : Nat → Nat} {A : Nat → Prop} {nL mc ms : Nat} {Iv : xI} {own : String} {cc : ByteArray}
theorem xm_sti_of {lv : xL} {n : Nat} {st : List Value} {K : xL → List Value → Prop} (h : xm_sti lv n st K) : ∃ x r, st = .int x :: r ∧ xm_ok1 lv n = true ∧ xm_len lv n = true ∧ K (xm_set lv n (some (.int x))) r := by
  unfold xm_sti at h
  split at h
  · split at h
    · rename_i h1
      simp only [Bool.and_eq_true] at h1
      exact ⟨_, _, rfl, h1.1, h1.2, h⟩
    · exact h.elim
  · exact h.elim
theorem xm_stl_of {lv : xL} {n : Nat} {st : List Value} {K : xL → List Value → Prop} (h : xm_stl lv n st K) : ∃ x r, st = .long x :: r ∧ xm_ok1 lv n = true ∧ xm_len lv (n + 1) = true ∧ K (xm_set (xm_set lv n (some (.long x))) (n + 1) none) r := by
  unfold xm_stl at h
  split at h
  · split at h
    · rename_i h1
      simp only [Bool.and_eq_true] at h1
      exact ⟨_, _, rfl, h1.1, h1.2, h⟩
    · exact h.elim
  · exact h.elim
theorem xm_sta_of {lv : xL} {n : Nat} {st : List Value} {K : xL → List Value → Prop} (h : xm_sta lv n st K) : ∃ v r, st = v :: r ∧ (v = .null ∨ ∃ x, v = .ref x) ∧ xm_ok1 lv n = true ∧ xm_len lv n = true ∧ K (xm_set lv n (some v)) r := by
  unfold xm_sta at h
  split at h
  · split at h
    · rename_i h1
      simp only [Bool.and_eq_true] at h1
      exact ⟨_, _, rfl, Or.inr ⟨_, rfl⟩, h1.1, h1.2, h⟩
    · exact h.elim
  · split at h
    · rename_i h1
      simp only [Bool.and_eq_true] at h1
      exact ⟨_, _, rfl, Or.inl rfl, h1.1, h1.2, h⟩
    · exact h.elim
  · exact h.elim
theorem xm_inc_of {lv : xL} {n : Nat} {k : Int} {K : xL → Prop} (h : xm_inc lv n k K) : ∃ x, xm_get lv n = some (.int x) ∧ xm_ok1 lv n = true ∧ xm_len lv n = true ∧ K (xm_set lv n (some (.int (x + Int32.ofInt k)))) := by
  unfold xm_inc at h
  split at h
  · split at h
    · rename_i x h0 _ h1
      simp only [Bool.and_eq_true] at h1
      exact ⟨_, h0, h1.1, h1.2, h⟩
    · exact h.elim
  · exact h.elim
theorem xm_ldi_of {lv : xL} {n : Nat} {K : Value → Prop} (h : xm_ldi lv n K) : ∃ x, xm_get lv n = some (.int x) ∧ K (.int x) := by
  unfold xm_ldi at h
  split at h
  · exact ⟨_, by assumption, h⟩
  · exact h.elim
theorem xm_ldl_of {lv : xL} {n : Nat} {K : Value → Prop} (h : xm_ldl lv n K) : ∃ x, xm_get lv n = some (.long x) ∧ K (.long x) := by
  unfold xm_ldl at h
  split at h
  · exact ⟨_, by assumption, h⟩
  · exact h.elim
theorem xm_lda_of {lv : xL} {n : Nat} {K : Value → Prop} (h : xm_lda lv n K) : ∃ v, (v = .null ∨ ∃ x, v = .ref x) ∧ xm_get lv n = some v ∧ K v := by
  unfold xm_lda at h
  split at h
  · exact ⟨_, Or.inr ⟨_, rfl⟩, by assumption, h⟩
  · exact ⟨_, Or.inl rfl, by assumption, h⟩
  · exact h.elim
theorem xm_i2_of {f : Int32 → Int32 → Int32} {st : List Value} {K : List Value → Prop} (h : xm_i2 f st K) : ∃ x y r, st = .int y :: .int x :: r ∧ K (.int (f x y) :: r) := by
  unfold xm_i2 at h
  split at h
  · exact ⟨_, _, _, rfl, h⟩
  · exact h.elim
theorem xm_i2z_of {f : Int32 → Int32 → Int32} {st : List Value} {K : List Value → Prop} (h : xm_i2z f st K) : ∃ x y r, st = .int y :: .int x :: r ∧ ¬ y = 0 ∧ K (.int (f x y) :: r) := by
  unfold xm_i2z at h
  split at h
  · exact ⟨_, _, _, rfl, h⟩
  · exact h.elim
theorem xm_l2_of {f : Int64 → Int64 → Int64} {st : List Value} {K : List Value → Prop} (h : xm_l2 f st K) : ∃ x y r, st = .long y :: .long x :: r ∧ K (.long (f x y) :: r) := by
  unfold xm_l2 at h
  split at h
  · exact ⟨_, _, _, rfl, h⟩
  · exact h.elim
theorem xm_i1_of {f : Int32 → Value} {st : List Value} {K : List Value → Prop} (h : xm_i1 f st K) : ∃ x r, st = .int x :: r ∧ K (f x :: r) := by
  unfold xm_i1 at h
  split at h
  · exact ⟨_, _, rfl, h⟩
  · exact h.elim
theorem xm_b1_of {q : Int32 → Prop} {st : List Value} {T F : List Value → Prop} (h : xm_b1 q st T F) : ∃ x r, st = .int x :: r ∧ (q x → T r) ∧ (¬ q x → F r) := by
  unfold xm_b1 at h
  split at h
  · exact ⟨_, _, rfl, h⟩
  · exact h.elim
theorem xm_b2_of {q : Int32 → Int32 → Prop} {st : List Value} {T F : List Value → Prop} (h : xm_b2 q st T F) : ∃ x y r, st = .int y :: .int x :: r ∧ (q x y → T r) ∧ (¬ q x y → F r) := by
  unfold xm_b2 at h
  split at h
  · exact ⟨_, _, _, rfl, h⟩
  · exact h.elim
theorem xm_lay_of {w : xW} {a : Nat} {q : Nat → Bool} {K : Nat → Nat → Prop} (h : xm_lay w a q K) : ∃ t n, w.1 a = some (t, n) ∧ q t = true ∧ K t n := by
  unfold xm_lay at h
  split at h
  · split at h
    · exact ⟨_, _, by assumption, by assumption, h⟩
    · exact h.elim
  · exact h.elim
theorem xm_tgt_eq {pc : Nat} {off : Int} (h : 0 ≤ (pc : Int) + off) : (pc : Int) + off = (xm_tgt pc off : Int) := by
  unfold xm_tgt
  omega
theorem xm_tsw_at {x : Int32} {pc : Nat} {K : Nat → Prop} : ∀ (l : List Int) (v : Int), xm_tsw x pc K l v → ∀ (j : Nat) (off : Int), l[j]? = some off → x.toInt = v + j → K (xm_tgt pc off)
  | [], v, _, j, off, h, _ => by simp at h
  | o :: r, v, hk, 0, off, h, hx => by
    cases h
    refine hk.1 ?_
    apply Int32.toInt_inj.mp
    rw [show v = x.toInt by simp at hx; omega, Int32.ofInt_toInt]
  | o :: r, v, hk, j + 1, off, h, hx => xm_tsw_at r (v + 1) hk.2 j off (by simpa using h) (by push_cast at hx; omega)
theorem xm_lsw_in {pc : Nat} : ∀ (l : List (Int × Int)) (d x : Int), (∀ o ∈ d :: l.map (fun q => q.2), 0 ≤ (pc : Int) + o) → 0 ≤ (pc : Int) + Op.lookupswitch.offset l d x
  | [], d, x, h => h d List.mem_cons_self
  | (v, o) :: r, d, x, h => by
    rw [Op.lookupswitch.offset_cons]
    by_cases e : v = x
    · rw [if_pos e]
      exact h o (List.mem_cons_of_mem _ List.mem_cons_self)
    · rw [if_neg e]
      refine xm_lsw_in r d x (fun q hq => h q ?_)
      rcases List.mem_cons.mp hq with h1 | h1
      · rw [h1]; exact List.mem_cons_self
      · exact List.mem_cons_of_mem _ (List.mem_cons_of_mem _ h1)
theorem xm_lsw_at {x : Int32} {pc : Nat} {K : Nat → Prop} {d : Int} : ∀ (l : List (Int × Int)), (∀ q ∈ l, -2 ^ 31 ≤ q.1 ∧ q.1 < 2 ^ 31) → xm_lsw x pc K d l → K (xm_tgt pc (Op.lookupswitch.offset l d x.toInt))
  | [], _, h => h
  | (v, o) :: r, hr, h => by
    rw [Op.lookupswitch.offset_cons]
    have h0 := hr (v, o) List.mem_cons_self
    by_cases e : x = Int32.ofInt v
    · have : v = x.toInt := by rw [e, Int32.toInt_ofInt_of_le (by simpa using h0.1) (by simpa using h0.2)]
      rw [if_pos this]
      exact h.1 e
    · have : ¬ v = x.toInt := fun z => e (by rw [z, Int32.ofInt_toInt])
      rw [if_neg this]
      exact xm_lsw_at r (fun q hq => hr q (List.mem_cons_of_mem _ hq)) (h.2 e)
set_option maxHeartbeats 8000000 in
theorem xm_vi_ok {init : Bool} {rt : Nat} {Q : Option Value → xW → Prop} {QX : Nat → Nat → xW → Prop} {hs : List (Nat × Nat × Nat × Nat)} {calls : List (Nat × Nat × Nat × xS)} {V : xX} {i : Instr} {nx cK k d pc : Nat}
    (C0 : xm_Cx p l s m args meth c D dA A nL Iv own cc) (hinit : init = true → meth.name = "<init>") (hmc : mc ≤ R.cells) (hms : ms ≤ R.slots)
    (hRet : xm_RetOK p l e R s m args below meth c Qf D dA b A mc ms cc rt Q) (hExc : xm_ExcOK p l e R s m args below meth c Qf D dA b A mc ms hs QX)
    (hok : (∃ len, decode cc pc = .ok (i, len) ∧ (xm_isw i = false → len = xm_ln i ∧ nx = pc + xm_ln i)) ∧ xm_oki own init pc i cK k d)
    (ih : ∀ (lv : xL) (st : List Value) (w : xW) (cb sb : Nat), V nx lv st w cb sb → xm_Xs p l e R s m args below meth c Qf D dA b A nL mc ms nx lv st w cb sb)
    {lv : xL} {st : List Value} {w : xW} {cb sb : Nat} (h : xm_vi (xm_Xs p l e R s m args below meth c Qf D dA b A nL mc ms, Q, QX, hs, calls, rt) V i nx cK k d pc lv st w cb sb) : xm_Xs p l e R s m args below meth c Qf D dA b A nL mc ms pc lv st w cb sb := by
  intro H locs cells slots ls hJ hl hcb hsb
  obtain ⟨hx, hb, hml, hown, hts, hK, hN, hI, hA, hst, hlk⟩ := id C0
  obtain ⟨⟨len, hdg, hlen⟩, hoki⟩ := hok
  cases i with
  | iconst n =>
    obtain ⟨rfl, rfl⟩ := hlen rfl
    exact lv_iconst hx hb hdg rfl (ih _ _ _ _ _ h H locs cells slots ls hJ hl hcb hsb)
  | bipush n =>
    obtain ⟨rfl, rfl⟩ := hlen rfl
    exact lv_bipush hx hb hdg hoki (ih _ _ _ _ _ h H locs cells slots ls hJ hl hcb hsb)
  | sipush n =>
    obtain ⟨rfl, rfl⟩ := hlen rfl
    exact lv_sipush hx hb hdg hoki (ih _ _ _ _ _ h H locs cells slots ls hJ hl hcb hsb)
  | ldc n =>
    obtain ⟨rfl, rfl⟩ := hlen rfl
    exact lv_ldc hx hb hown (hts _ hoki) hdg (ih _ _ _ _ _ h H locs cells slots ls hJ hl hcb hsb)
  | ldc_w n =>
    obtain ⟨rfl, rfl⟩ := hlen rfl
    exact lv_ldcw hx hb hown (hts _ hoki) hdg (ih _ _ _ _ _ h H locs cells slots ls hJ hl hcb hsb)
  | ldc2_w n =>
    obtain ⟨rfl, rfl⟩ := hlen rfl
    exact lv_ldc2 hx hb hown (hts _ hoki) hdg (ih _ _ _ _ _ h H locs cells slots ls hJ hl hcb hsb)
  | lconst n =>
    obtain ⟨rfl, rfl⟩ := hlen rfl
    exact lv_lconst hx hb hdg rfl (ih _ _ _ _ _ h H locs cells slots ls hJ hl hcb hsb)
  | aconst_null =>
    obtain ⟨rfl, rfl⟩ := hlen rfl
    exact lv_null hx hb hdg (ih _ _ _ _ _ h H locs cells slots ls hJ hl hcb hsb)
  | iload n =>
    obtain ⟨rfl, rfl⟩ := hlen rfl
    simp only [xm_vi] at h
    obtain ⟨x, hg, h⟩ := xm_ldi_of h
    exact lv_iload hx hb hdg (hl.at hg) (ih _ _ _ _ _ h H locs cells slots ls hJ hl hcb hsb)
  | iload_n n =>
    obtain ⟨rfl, rfl⟩ := hlen rfl
    simp only [xm_vi] at h
    obtain ⟨x, hg, h⟩ := xm_ldi_of h
    exact lv_iload_n hx hb hdg rfl (hl.at hg) (ih _ _ _ _ _ h H locs cells slots ls hJ hl hcb hsb)
  | lload n =>
    obtain ⟨rfl, rfl⟩ := hlen rfl
    simp only [xm_vi] at h
    obtain ⟨x, hg, h⟩ := xm_ldl_of h
    exact lv_lload hx hb hdg (hl.at hg) (ih _ _ _ _ _ h H locs cells slots ls hJ hl hcb hsb)
  | lload_n n =>
    obtain ⟨rfl, rfl⟩ := hlen rfl
    simp only [xm_vi] at h
    obtain ⟨x, hg, h⟩ := xm_ldl_of h
    exact lv_lload_n hx hb hdg rfl (hl.at hg) (ih _ _ _ _ _ h H locs cells slots ls hJ hl hcb hsb)
  | aload n =>
    obtain ⟨rfl, rfl⟩ := hlen rfl
    simp only [xm_vi] at h
    obtain ⟨v, rfl | ⟨x, rfl⟩, hg, h⟩ := xm_lda_of h
    · exact lv_aloadN hx hb hdg (hl.at hg) (ih _ _ _ _ _ h H locs cells slots ls hJ hl hcb hsb)
    · exact lv_aload hx hb hdg (hl.at hg) (ih _ _ _ _ _ h H locs cells slots ls hJ hl hcb hsb)
  | aload_n n =>
    obtain ⟨rfl, rfl⟩ := hlen rfl
    simp only [xm_vi] at h
    obtain ⟨v, rfl | ⟨x, rfl⟩, hg, h⟩ := xm_lda_of h
    · exact lv_aload_nN hx hb hdg rfl (hl.at hg) (ih _ _ _ _ _ h H locs cells slots ls hJ hl hcb hsb)
    · exact lv_aload_n hx hb hdg rfl (hl.at hg) (ih _ _ _ _ _ h H locs cells slots ls hJ hl hcb hsb)
  | istore n =>
    obtain ⟨rfl, rfl⟩ := hlen rfl
    simp only [xm_vi] at h
    obtain ⟨x, r, rfl, ok, hn, h⟩ := xm_sti_of h
    obtain ⟨hl1, l0, hl2, hl3⟩ := id hl
    exact lv_istore hx hb hdg hl2 (hl.lt hn) rfl (fun ls' hl' => ih _ _ _ _ _ h H locs cells slots ls' hJ (xm_ls.put1 (v := .int x) hl1 hl3 ok hl') hcb hsb)
  | istore_n n =>
    obtain ⟨rfl, rfl⟩ := hlen rfl
    simp only [xm_vi] at h
    obtain ⟨x, r, rfl, ok, hn, h⟩ := xm_sti_of h
    obtain ⟨hl1, l0, hl2, hl3⟩ := id hl
    exact lv_istore_n hx hb hdg rfl hl2 (hl.lt hn) rfl (fun ls' hl' => ih _ _ _ _ _ h H locs cells slots ls' hJ (xm_ls.put1 (v := .int x) hl1 hl3 ok hl') hcb hsb)
  | lstore n =>
    obtain ⟨rfl, rfl⟩ := hlen rfl
    simp only [xm_vi] at h
    obtain ⟨x, r, rfl, ok, hn, h⟩ := xm_stl_of h
    obtain ⟨hl1, l0, hl2, hl3⟩ := id hl
    exact lv_lstore hx hb hdg hl2 (hl.lt hn) rfl (fun ls' hl' => ih _ _ _ _ _ h H locs cells slots ls' hJ (xm_ls.put2 (v := .long x) hl1 hl3 ok hl') hcb hsb)
  | lstore_n n =>
    obtain ⟨rfl, rfl⟩ := hlen rfl
    simp only [xm_vi] at h
    obtain ⟨x, r, rfl, ok, hn, h⟩ := xm_stl_of h
    obtain ⟨hl1, l0, hl2, hl3⟩ := id hl
    exact lv_lstore_n hx hb hdg rfl hl2 (hl.lt hn) rfl (fun ls' hl' => ih _ _ _ _ _ h H locs cells slots ls' hJ (xm_ls.put2 (v := .long x) hl1 hl3 ok hl') hcb hsb)
  | astore n =>
    obtain ⟨rfl, rfl⟩ := hlen rfl
    simp only [xm_vi] at h
    obtain ⟨v, r, rfl, rfl | ⟨x, rfl⟩, ok, hn, h⟩ := xm_sta_of h
    · obtain ⟨hl1, l0, hl2, hl3⟩ := id hl
      exact lv_astoreN hx hb hdg hl2 (hl.lt hn) rfl (fun ls' hl' => ih _ _ _ _ _ h H locs cells slots ls' hJ (xm_ls.put1 (v := .null) hl1 hl3 ok hl') hcb hsb)
    · obtain ⟨hl1, l0, hl2, hl3⟩ := id hl
      exact lv_astore hx hb hdg hl2 (hl.lt hn) rfl (fun ls' hl' => ih _ _ _ _ _ h H locs cells slots ls' hJ (xm_ls.put1 (v := .ref x) hl1 hl3 ok hl') hcb hsb)
  | astore_n n =>
    obtain ⟨rfl, rfl⟩ := hlen rfl
    simp only [xm_vi] at h
    obtain ⟨v, r, rfl, rfl | ⟨x, rfl⟩, ok, hn, h⟩ := xm_sta_of h
    · obtain ⟨hl1, l0, hl2, hl3⟩ := id hl
      exact lv_astore_nN hx hb hdg rfl hl2 (hl.lt hn) rfl (fun ls' hl' => ih _ _ _ _ _ h H locs cells slots ls' hJ (xm_ls.put1 (v := .null) hl1 hl3 ok hl') hcb hsb)
    · obtain ⟨hl1, l0, hl2, hl3⟩ := id hl
      exact lv_astore_n hx hb hdg rfl hl2 (hl.lt hn) rfl (fun ls' hl' => ih _ _ _ _ _ h H locs cells slots ls' hJ (xm_ls.put1 (v := .ref x) hl1 hl3 ok hl') hcb hsb)
  | iinc n z =>
    obtain ⟨rfl, rfl⟩ := hlen rfl
    simp only [xm_vi] at h
    obtain ⟨x, hg, ok, hn, h⟩ := xm_inc_of h
    obtain ⟨hl1, l0, hl2, hl3⟩ := id hl
    obtain ⟨j, hj⟩ := List.getElem?_of_mem (hl3 n _ hg)
    exact lv_iinc hx hb hdg hl2 hj rfl (hl.lt hn) rfl (fun ls' hl' => ih _ _ _ _ _ h H locs cells slots ls' hJ (xm_ls.put1 (v := .int (x + Int32.ofInt z)) hl1 hl3 ok hl') hcb hsb)
  | iadd =>
    obtain ⟨rfl, rfl⟩ := hlen rfl
    simp only [xm_vi] at h
    obtain ⟨x, y, r, rfl, h⟩ := xm_i2_of h
    exact lv_iadd hx hb hdg (ih _ _ _ _ _ h H locs cells slots ls hJ hl hcb hsb)
  | isub =>
    obtain ⟨rfl, rfl⟩ := hlen rfl
    simp only [xm_vi] at h
    obtain ⟨x, y, r, rfl, h⟩ := xm_i2_of h
    exact lv_isub hx hb hdg (ih _ _ _ _ _ h H locs cells slots ls hJ hl hcb hsb)
  | imul =>
    obtain ⟨rfl, rfl⟩ := hlen rfl
    simp only [xm_vi] at h
    obtain ⟨x, y, r, rfl, h⟩ := xm_i2_of h
    exact lv_imul hx hb hdg (ih _ _ _ _ _ h H locs cells slots ls hJ hl hcb hsb)
  | iand =>
    obtain ⟨rfl, rfl⟩ := hlen rfl
    simp only [xm_vi] at h
    obtain ⟨x, y, r, rfl, h⟩ := xm_i2_of h
    exact lv_iand hx hb hdg (ih _ _ _ _ _ h H locs cells slots ls hJ hl hcb hsb)
  | ior =>
    obtain ⟨rfl, rfl⟩ := hlen rfl
    simp only [xm_vi] at h
    obtain ⟨x, y, r, rfl, h⟩ := xm_i2_of h
    exact lv_ior hx hb hdg (ih _ _ _ _ _ h H locs cells slots ls hJ hl hcb hsb)
  | ixor =>
    obtain ⟨rfl, rfl⟩ := hlen rfl
    simp only [xm_vi] at h
    obtain ⟨x, y, r, rfl, h⟩ := xm_i2_of h
    exact lv_ixor hx hb hdg (ih _ _ _ _ _ h H locs cells slots ls hJ hl hcb hsb)
  | ishl =>
    obtain ⟨rfl, rfl⟩ := hlen rfl
    simp only [xm_vi] at h
    obtain ⟨x, y, r, rfl, h⟩ := xm_i2_of h
    exact lv_ishl hx hb hdg (ih _ _ _ _ _ h H locs cells slots ls hJ hl hcb hsb)
  | ishr =>
    obtain ⟨rfl, rfl⟩ := hlen rfl
    simp only [xm_vi] at h
    obtain ⟨x, y, r, rfl, h⟩ := xm_i2_of h
    exact lv_ishr hx hb hdg (ih _ _ _ _ _ h H locs cells slots ls hJ hl hcb hsb)
  | iushr =>
    obtain ⟨rfl, rfl⟩ := hlen rfl
    simp only [xm_vi] at h
    obtain ⟨x, y, r, rfl, h⟩ := xm_i2_of h
    exact lv_iushr hx hb hdg rfl (ih _ _ _ _ _ h H locs cells slots ls hJ hl hcb hsb)
  | idiv =>
    obtain ⟨rfl, rfl⟩ := hlen rfl
    simp only [xm_vi] at h
    obtain ⟨x, y, r, rfl, hne, h⟩ := xm_i2z_of h
    exact lv_idiv hx hb hdg hne (ih _ _ _ _ _ h H locs cells slots ls hJ hl hcb hsb)
  | irem =>
    obtain ⟨rfl, rfl⟩ := hlen rfl
    simp only [xm_vi] at h
    obtain ⟨x, y, r, rfl, hne, h⟩ := xm_i2z_of h
    exact lv_irem hx hb hdg hne (ih _ _ _ _ _ h H locs cells slots ls hJ hl hcb hsb)
  | ineg =>
    obtain ⟨rfl, rfl⟩ := hlen rfl
    simp only [xm_vi] at h
    obtain ⟨x, r, rfl, h⟩ := xm_i1_of h
    exact lv_ineg hx hb hdg (ih _ _ _ _ _ h H locs cells slots ls hJ hl hcb hsb)
  | i2l =>
    obtain ⟨rfl, rfl⟩ := hlen rfl
    simp only [xm_vi] at h
    obtain ⟨x, r, rfl, h⟩ := xm_i1_of h
    exact lv_i2l hx hb hdg rfl (ih _ _ _ _ _ h H locs cells slots ls hJ hl hcb hsb)
  | i2b =>
    obtain ⟨rfl, rfl⟩ := hlen rfl
    simp only [xm_vi] at h
    obtain ⟨x, r, rfl, h⟩ := xm_i1_of h
    exact lv_i2b hx hb hdg rfl (ih _ _ _ _ _ h H locs cells slots ls hJ hl hcb hsb)
  | i2c =>
    obtain ⟨rfl, rfl⟩ := hlen rfl
    simp only [xm_vi] at h
    obtain ⟨x, r, rfl, h⟩ := xm_i1_of h
    exact lv_i2c hx hb hdg rfl (ih _ _ _ _ _ h H locs cells slots ls hJ hl hcb hsb)
  | ladd =>
    obtain ⟨rfl, rfl⟩ := hlen rfl
    simp only [xm_vi] at h
    obtain ⟨x, y, r, rfl, h⟩ := xm_l2_of h
    exact lv_ladd hx hb hdg (ih _ _ _ _ _ h H locs cells slots ls hJ hl hcb hsb)
  | lsub =>
    obtain ⟨rfl, rfl⟩ := hlen rfl
    simp only [xm_vi] at h
    obtain ⟨x, y, r, rfl, h⟩ := xm_l2_of h
    exact lv_lsub hx hb hdg (ih _ _ _ _ _ h H locs cells slots ls hJ hl hcb hsb)
  | lmul =>
    obtain ⟨rfl, rfl⟩ := hlen rfl
    simp only [xm_vi] at h
    obtain ⟨x, y, r, rfl, h⟩ := xm_l2_of h
    exact lv_lmul hx hb hdg (ih _ _ _ _ _ h H locs cells slots ls hJ hl hcb hsb)
  | lcmp =>
    obtain ⟨rfl, rfl⟩ := hlen rfl
    simp only [xm_vi] at h
    split at h
    · exact W.lcmp hx hb hdg (ih _ _ _ _ _ h H locs cells slots ls hJ hl hcb hsb)
    · exact h.elim
  | dup =>
    obtain ⟨rfl, rfl⟩ := hlen rfl
    simp only [xm_vi] at h
    split at h
    · exact lv_dup hx hb hdg ((xm_cv_cat b _).trans h.1) (ih _ _ _ _ _ h.2 H locs cells slots ls hJ hl hcb hsb)
    · exact h.elim
  | dup2 =>
    obtain ⟨rfl, rfl⟩ := hlen rfl
    simp only [xm_vi] at h
    split at h
    · exact lv_dup2_11 hx hb hdg ((xm_cv_cat b _).trans h.1) ((xm_cv_cat b _).trans h.2.1) (ih _ _ _ _ _ h.2.2 H locs cells slots ls hJ hl hcb hsb)
    · exact h.elim
  | dup_x1 =>
    obtain ⟨rfl, rfl⟩ := hlen rfl
    simp only [xm_vi] at h
    split at h
    · exact lv_dup_x1 hx hb hdg ((xm_cv_cat b _).trans h.1) ((xm_cv_cat b _).trans h.2.1) (ih _ _ _ _ _ h.2.2 H locs cells slots ls hJ hl hcb hsb)
    · exact h.elim
  | pop =>
    obtain ⟨rfl, rfl⟩ := hlen rfl
    simp only [xm_vi] at h
    split at h
    · exact lv_pop hx hb hdg ((xm_cv_cat b _).trans h.1) (ih _ _ _ _ _ h.2 H locs cells slots ls hJ hl hcb hsb)
    · exact h.elim
  | getfield idx =>
    obtain ⟨rfl, rfl⟩ := hlen rfl
    simp only [xm_vi, xm_gf] at h
    split at h
    · obtain ⟨t, n, h1, h2, h3⟩ := xm_lay_of h
      exact xr_gf C0 hJ hoki hdg h1 h2 (ih _ _ _ _ _ h3 H locs cells slots ls hJ hl hcb hsb)
    · exact h.elim
  | putfield idx =>
    obtain ⟨rfl, rfl⟩ := hlen rfl
    simp only [xm_vi, xm_pf] at h
    split at h
    · obtain ⟨t, n, h1, h2, h3⟩ := xm_lay_of h
      simp only [Bool.and_eq_true] at h2
      obtain ⟨h2, h200⟩ := h2
      have h200 : t < 200 := Nat.le_of_ble_eq_true h200
      split at h3
      · exact xr_pf C0 hinit hJ hoki hdg h1 h2 h200 (Or.inl ⟨rfl, _, rfl, rfl⟩) (fun H' locs' hJ' => ih _ _ _ _ _ h3 H' locs' cells slots ls hJ' hl hcb hsb)
      · exact xr_pf C0 hinit hJ hoki hdg h1 h2 h200 (Or.inr (Or.inl ⟨rfl, some _, rfl, rfl⟩)) (fun H' locs' hJ' => ih _ _ _ _ _ h3 H' locs' cells slots ls hJ' hl hcb hsb)
      · exact xr_pf C0 hinit hJ hoki hdg h1 h2 h200 (Or.inr (Or.inl ⟨rfl, none, rfl, rfl⟩)) (fun H' locs' hJ' => ih _ _ _ _ _ h3 H' locs' cells slots ls hJ' hl hcb hsb)
      · exact xr_pf C0 hinit hJ hoki hdg h1 h2 h200 (Or.inr (Or.inr (Or.inl ⟨rfl, _, rfl, rfl⟩))) (fun H' locs' hJ' => ih _ _ _ _ _ h3 H' locs' cells slots ls hJ' hl hcb hsb)
      · exact xr_pf C0 hinit hJ hoki hdg h1 h2 h200 (Or.inr (Or.inr (Or.inr ⟨rfl, _, rfl, h3.1, rfl⟩))) (fun H' locs' hJ' => ih _ _ _ _ _ h3.2 H' locs' cells slots ls hJ' hl hcb hsb)
      · exact h3.elim
    · exact h.elim
  | iaload =>
    obtain ⟨rfl, rfl⟩ := hlen rfl
    simp only [xm_vi, xm_ald] at h
    split at h
    · obtain ⟨t, n, h1, h2, h3, h4⟩ := xm_lay_of h
      exact xr_ald C0 hJ hdg h1 rfl h3 (Or.inl ⟨rfl, by simpa using h2, rfl⟩) (ih _ _ _ _ _ h4 H locs cells slots ls hJ hl hcb hsb)
    · exact h.elim
  | baload =>
    obtain ⟨rfl, rfl⟩ := hlen rfl
    simp only [xm_vi, xm_ald] at h
    split at h
    · obtain ⟨t, n, h1, h2, h3, h4⟩ := xm_lay_of h
      exact xr_ald C0 hJ hdg h1 rfl h3 (Or.inr (Or.inl ⟨rfl, by
        simp only [Bool.or_eq_true, beq_iff_eq] at h2
        rcases h2 with h2 | rfl
        · exact Or.inl h2
        · exact Or.inr rfl, rfl⟩)) (ih _ _ _ _ _ h4 H locs cells slots ls hJ hl hcb hsb)
    · exact h.elim
  | aaload =>
    obtain ⟨rfl, rfl⟩ := hlen rfl
    simp only [xm_vi, xm_ald] at h
    split at h
    · obtain ⟨t, n, h1, h2, h3, h4⟩ := xm_lay_of h
      simp only [Bool.and_eq_true] at h2
      have h113 : t < 113 := Nat.le_of_ble_eq_true h2.2
      exact xr_ald C0 hJ hdg h1 (xm_bt_lt (by omega)) h3 (Or.inr (Or.inr (Or.inl ⟨rfl, Nat.le_of_ble_eq_true h2.1, rfl⟩))) (ih _ _ _ _ _ h4 H locs cells slots ls hJ hl hcb hsb)
    · exact h.elim
  | laload =>
    obtain ⟨rfl, rfl⟩ := hlen rfl
    simp only [xm_vi, xm_ald] at h
    split at h
    · obtain ⟨t, n, h1, h2, h3, h4⟩ := xm_lay_of h
      have h2 : t = 104 := by simpa using h2
      exact xr_ald C0 hJ hdg h1 (xm_bt_lt (by omega)) h3 (Or.inr (Or.inr (Or.inr ⟨rfl, h2, rfl⟩))) (ih _ _ _ _ _ h4 H locs cells slots ls hJ hl hcb hsb)
    · exact h.elim
  | iastore =>
    obtain ⟨rfl, rfl⟩ := hlen rfl
    simp only [xm_vi, xm_ast] at h
    split at h
    · obtain ⟨t, n, h1, h2, h3, h4⟩ := xm_lay_of h
      exact xr_iast C0 hJ hdg h1 h3 (Or.inl ⟨rfl, by simpa using h2, rfl⟩) (fun H' locs' hJ' => ih _ _ _ _ _ h4 H' locs' cells slots ls hJ' hl hcb hsb)
    · exact h.elim
  | bastore =>
    obtain ⟨rfl, rfl⟩ := hlen rfl
    simp only [xm_vi, xm_ast] at h
    split at h
    · obtain ⟨t, n, h1, h2, h3, h4⟩ := xm_lay_of h
      exact xr_iast C0 hJ hdg h1 h3 (Or.inr ⟨rfl, by simpa using h2, rfl⟩) (fun H' locs' hJ' => ih _ _ _ _ _ h4 H' locs' cells slots ls hJ' hl hcb hsb)
    · exact h.elim
  | lastore =>
    obtain ⟨rfl, rfl⟩ := hlen rfl
    simp only [xm_vi, xm_lst] at h
    split at h
    · obtain ⟨t, n, h1, h2, h3, h4⟩ := xm_lay_of h
      have h2 : t = 104 := by simpa using h2
      subst h2
      exact xr_last C0 hJ hdg h1 h3 (fun H' locs' hJ' => ih _ _ _ _ _ h4 H' locs' cells slots ls hJ' hl hcb hsb)
    · exact h.elim
  | arraylength =>
    obtain ⟨rfl, rfl⟩ := hlen rfl
    simp only [xm_vi, xm_aln] at h
    split at h
    · obtain ⟨t, n, h1, h2, h3⟩ := xm_lay_of h
      exact xr_aln C0 hJ hdg h1 rfl (Nat.le_of_ble_eq_true h2) (ih _ _ _ _ _ h3 H locs cells slots ls hJ hl hcb hsb)
    · exact h.elim
  | newarray at' =>
    obtain ⟨rfl, rfl⟩ := hlen rfl
    simp only [xm_vi, xm_nwa] at h
    split at h
    · obtain ⟨h1, h2, h3, h4, h5⟩ := h
      exact xr_nwa C0 hJ hdg hoki h1 h2 (by omega) (by omega) (fun a H' g1 g2 hJ' => ih _ _ _ _ _ (h5 a g1 g2) H' locs _ _ ls hJ' hl (by omega) (by omega))
    · exact h.elim
  | new idx =>
    obtain ⟨rfl, rfl⟩ := hlen rfl
    obtain ⟨h3, h4, h5⟩ := h
    exact xr_nwo C0 hJ hdg hoki (by omega) (by omega) (fun a H' g1 g2 hJ' => ih _ _ _ _ _ (h5 a g1 g2) H' locs _ _ ls hJ' hl (by omega) (by omega))
  | goto off =>
    obtain ⟨rfl, rfl⟩ := hlen rfl
    exact lv_goto hx hb hdg hoki (h H locs cells slots ls hJ hl hcb hsb)
  | ifCond cd off =>
    obtain ⟨rfl, rfl⟩ := hlen rfl
    cases cd with
    | eq =>
      simp only [xm_vi] at h
      obtain ⟨x, r, rfl, h1, h2⟩ := xm_b1_of h
      exact lv_if_eq hx hb hdg hoki (fun q => h1 q H locs cells slots ls hJ hl hcb hsb) (fun q => ih _ _ _ _ _ (h2 q) H locs cells slots ls hJ hl hcb hsb)
    | ne =>
      simp only [xm_vi] at h
      obtain ⟨x, r, rfl, h1, h2⟩ := xm_b1_of h
      exact lv_if_ne hx hb hdg hoki (fun q => h1 q H locs cells slots ls hJ hl hcb hsb) (fun q => ih _ _ _ _ _ (h2 (fun z => z q)) H locs cells slots ls hJ hl hcb hsb)
    | lt =>
      simp only [xm_vi] at h
      obtain ⟨x, r, rfl, h1, h2⟩ := xm_b1_of h
      exact lv_if_lt hx hb hdg hoki (fun q => h1 q H locs cells slots ls hJ hl hcb hsb) (fun q => ih _ _ _ _ _ (h2 q) H locs cells slots ls hJ hl hcb hsb)
    | ge =>
      simp only [xm_vi] at h
      obtain ⟨x, r, rfl, h1, h2⟩ := xm_b1_of h
      exact lv_if_ge hx hb hdg hoki (fun q => h1 q H locs cells slots ls hJ hl hcb hsb) (fun q => ih _ _ _ _ _ (h2 q) H locs cells slots ls hJ hl hcb hsb)
    | gt =>
      simp only [xm_vi] at h
      obtain ⟨x, r, rfl, h1, h2⟩ := xm_b1_of h
      exact lv_if_gt hx hb hdg hoki (fun q => h1 q H locs cells slots ls hJ hl hcb hsb) (fun q => ih _ _ _ _ _ (h2 q) H locs cells slots ls hJ hl hcb hsb)
    | le =>
      simp only [xm_vi] at h
      obtain ⟨x, r, rfl, h1, h2⟩ := xm_b1_of h
      exact lv_if_le hx hb hdg hoki (fun q => h1 q H locs cells slots ls hJ hl hcb hsb) (fun q => ih _ _ _ _ _ (h2 q) H locs cells slots ls hJ hl hcb hsb)
  | if_icmp cd off =>
    obtain ⟨rfl, rfl⟩ := hlen rfl
    cases cd with
    | eq =>
      simp only [xm_vi] at h
      obtain ⟨x, y, r, rfl, h1, h2⟩ := xm_b2_of h
      exact lv_icmp_eq hx hb hdg hoki (fun q => h1 q H locs cells slots ls hJ hl hcb hsb) (fun q => ih _ _ _ _ _ (h2 q) H locs cells slots ls hJ hl hcb hsb)
    | ne =>
      simp only [xm_vi] at h
      obtain ⟨x, y, r, rfl, h1, h2⟩ := xm_b2_of h
      exact lv_icmp_ne hx hb hdg hoki (fun q => h1 q H locs cells slots ls hJ hl hcb hsb) (fun q => ih _ _ _ _ _ (h2 (fun z => z q)) H locs cells slots ls hJ hl hcb hsb)
    | lt =>
      simp only [xm_vi] at h
      obtain ⟨x, y, r, rfl, h1, h2⟩ := xm_b2_of h
      exact lv_icmp_lt hx hb hdg hoki (fun q => h1 q H locs cells slots ls hJ hl hcb hsb) (fun q => ih _ _ _ _ _ (h2 q) H locs cells slots ls hJ hl hcb hsb)
    | ge =>
      simp only [xm_vi] at h
      obtain ⟨x, y, r, rfl, h1, h2⟩ := xm_b2_of h
      exact lv_icmp_ge hx hb hdg hoki (fun q => h1 q H locs cells slots ls hJ hl hcb hsb) (fun q => ih _ _ _ _ _ (h2 q) H locs cells slots ls hJ hl hcb hsb)
    | gt =>
      simp only [xm_vi] at h
      obtain ⟨x, y, r, rfl, h1, h2⟩ := xm_b2_of h
      exact lv_icmp_gt hx hb hdg hoki (fun q => h1 q H locs cells slots ls hJ hl hcb hsb) (fun q => ih _ _ _ _ _ (h2 q) H locs cells slots ls hJ hl hcb hsb)
    | le =>
      simp only [xm_vi] at h
      obtain ⟨x, y, r, rfl, h1, h2⟩ := xm_b2_of h
      exact lv_icmp_le hx hb hdg hoki (fun q => h1 q H locs cells slots ls hJ hl hcb hsb) (fun q => ih _ _ _ _ _ (h2 q) H locs cells slots ls hJ hl hcb hsb)
  | if_acmp cd off =>
    obtain ⟨rfl, rfl⟩ := hlen rfl
    have inj : ∀ x y, w.1 x ≠ none → w.1 y ≠ none → some (xm_phi b x) = some (xm_phi b y) → x = y := fun x y h1 h2 h3 => hJ.1.2 x y h1 h2 (Option.some.inj h3)
    cases cd with
    | eq =>
      simp only [xm_vi, xm_bq] at h
      split at h
      · rename_i y x r
        obtain ⟨g1, g2, h1, h2⟩ := h
        exact lv_acmp_eq (rx := some (xm_phi b x)) (ry := some (xm_phi b y)) hx hb hdg hoki (fun q => h1 (inj x y g1 g2 q) H locs cells slots ls hJ hl hcb hsb) (fun q => ih _ _ _ _ _ (h2 (fun z => q (by rw [z]))) H locs cells slots ls hJ hl hcb hsb)
      · exact h.elim
    | ne =>
      simp only [xm_vi, xm_bq] at h
      split at h
      · rename_i y x r
        obtain ⟨g1, g2, h1, h2⟩ := h
        exact lv_acmp_ne (rx := some (xm_phi b x)) (ry := some (xm_phi b y)) hx hb hdg hoki (fun q => h2 (fun z => q (by rw [z])) H locs cells slots ls hJ hl hcb hsb) (fun q => ih _ _ _ _ _ (h1 (inj x y g1 g2 q)) H locs cells slots ls hJ hl hcb hsb)
      · exact h.elim
  | athrow =>
    obtain ⟨rfl, rfl⟩ := hlen rfl
    simp only [xm_vi] at h
    split at h
    · rename_i a r
      obtain ⟨t, n, h1, h2, h3⟩ := xm_lay_of h
      have h2 : t = 10 := by simpa using h2
      subst h2
      obtain ⟨cell, g1, g2, g3⟩ : ∃ cell : Cell, H[xm_phi b a]? = some cell ∧ cell.vm = .none ∧ s.vm.findClass (xm_xn 2) = some cell.cls := by
        rcases hJ.1.1 a 10 n h1 with ⟨ht, r', h4, h5, cell, g1, g2, g3, -⟩ | ⟨h4, -⟩
        · refine ⟨cell, g1, g3, ?_⟩
          rw [g2]
          exact (hK.1 10 (RX14, TX14, 8) rfl).2.1
        · exact absurd h4 (by decide)
      have hE := hExc pc 2 a w H locs cells slots ls (xm_cs b r) cell hJ g1 g2 g3
      refine vx_athrow hx hb hdg ?_
      unfold xm_thr at h3
      split at h3
      · rename_i hh hhnd
        exact hE.2 hh hhnd (h3 H locs cells slots ls hJ hl hcb hsb)
      · rename_i hhnd
        exact hE.1 hhnd h3 (by omega) (by omega)
    · exact h.elim
  | ifnull off =>
    obtain ⟨rfl, rfl⟩ := hlen rfl
    simp only [xm_vi, xm_bn] at h
    split at h
    · exact lv_ifnullN hx hb hdg hoki (h H locs cells slots ls hJ hl hcb hsb)
    · exact lv_ifnull hx hb hdg (ih _ _ _ _ _ h H locs cells slots ls hJ hl hcb hsb)
    · exact h.elim
  | ifnonnull off =>
    obtain ⟨rfl, rfl⟩ := hlen rfl
    simp only [xm_vi, xm_bn] at h
    split at h
    · exact lv_ifnonnullN hx hb hdg (ih _ _ _ _ _ h H locs cells slots ls hJ hl hcb hsb)
    · exact lv_ifnonnull hx hb hdg hoki (h H locs cells slots ls hJ hl hcb hsb)
    · exact h.elim
  | tableswitch df lo hi offs =>
    simp only [xm_vi] at h
    split at h
    · rename_i x r
      obtain ⟨h1, h2⟩ := h
      obtain ⟨ho, hsz⟩ := hoki
      by_cases hr : x.toInt < lo ∨ hi < x.toInt
      · exact lv_tableOut hx hb hdg hr (xm_tgt_eq (ho _ List.mem_cons_self)) (h2 hr H locs cells slots ls hJ hl hcb hsb)
      · have hj : (x.toInt - lo).toNat < offs.toList.length := by
          have e : offs.toList.length = offs.size := Array.length_toList
          omega
        have hj2 : offs[(x.toInt - lo).toNat]? = some (offs.toList[(x.toInt - lo).toNat]) := by
          rw [← Array.getElem?_toList]
          exact List.getElem?_eq_getElem hj
        have h3 := xm_tsw_at offs.toList lo h1 (x.toInt - lo).toNat _ (List.getElem?_eq_getElem hj) (by omega)
        exact lv_tableIn hx hb hdg (by omega) (by omega) hj2 (xm_tgt_eq (ho _ (List.mem_cons_of_mem _ (List.getElem_mem hj)))) (h3 H locs cells slots ls hJ hl hcb hsb)
    · exact h.elim
  | lookupswitch df ps =>
    simp only [xm_vi] at h
    split at h
    · rename_i x r
      obtain ⟨ho, hrg, hso⟩ := hoki
      have h3 := xm_lsw_at ps.toList hrg h
      have h4 : 0 ≤ (pc : Int) + Op.lookupswitch.offset ps.toList df x.toInt := xm_lsw_in ps.toList df x.toInt ho
      exact lv_lookup hx hb hdg hso rfl (xm_tgt_eq h4) (h3 H locs cells slots ls hJ hl hcb hsb)
    · exact h.elim
  | ireturn =>
    obtain ⟨rfl, rfl⟩ := hlen rfl
    simp only [xm_vi] at h
    split at h
    · rename_i x
      unfold xm_ret1 at h
      split at h
      · exact hRet _ (some (.int x)) pc w H locs cells slots ls hdg (Or.inl ⟨rfl, x, rfl, Or.inl rfl⟩) h hJ (by omega) (by omega)
      · exact hRet _ (some (.int x)) pc w H locs cells slots ls hdg (Or.inl ⟨rfl, x, rfl, Or.inr ⟨rfl, h.1⟩⟩) h.2 hJ (by omega) (by omega)
      · exact h.elim
    · exact h.elim
  | lreturn =>
    obtain ⟨rfl, rfl⟩ := hlen rfl
    simp only [xm_vi] at h
    split at h
    · rename_i x
      exact hRet _ (some (.long x)) pc w H locs cells slots ls hdg (Or.inr (Or.inl ⟨rfl, h.1, x, rfl⟩)) h.2 hJ (by omega) (by omega)
    · exact h.elim
  | areturn =>
    obtain ⟨rfl, rfl⟩ := hlen rfl
    simp only [xm_vi] at h
    split at h
    · rename_i x
      exact hRet _ (some (.ref x)) pc w H locs cells slots ls hdg (Or.inr (Or.inr (Or.inl ⟨rfl, h.1, Or.inr ⟨x, rfl⟩⟩))) h.2 hJ (by omega) (by omega)
    · exact hRet _ (some .null) pc w H locs cells slots ls hdg (Or.inr (Or.inr (Or.inl ⟨rfl, h.1, Or.inl rfl⟩))) h.2 hJ (by omega) (by omega)
    · exact h.elim
  | return_ =>
    obtain ⟨rfl, rfl⟩ := hlen rfl
    simp only [xm_vi] at h
    split at h
    · exact hRet _ none pc w H locs cells slots ls hdg (Or.inr (Or.inr (Or.inr ⟨rfl, h.1, rfl⟩))) h.2 hJ (by omega) (by omega)
    · exact h.elim
  | _ => exact False.elim h
set_option maxHeartbeats 8000000 in
theorem xm_step {init : Bool} {fr rt : Nat} {Q : Option Value → xW → Prop} {QX : Nat → Nat → xW → Prop} {hs : List (Nat × Nat × Nat × Nat)} {calls : List (Nat × Nat × Nat × xS)}
    (C0 : xm_Cx p l s m args meth c D dA A nL Iv own cc) (hinit : init = true → meth.name = "<init>") (hmc : mc ≤ R.cells) (hms : ms ≤ R.slots) (hfr : fr ≤ R.frames) (hlo : 64 * fr ≤ R.locals)
    (hRet : xm_RetOK p l e R s m args below meth c Qf D dA b A mc ms cc rt Q) (hExc : xm_ExcOK p l e R s m args below meth c Qf D dA b A mc ms hs QX) :
    ∀ (blk : List xE) (pc : Nat), xm_okb Iv own cc init fr calls blk pc → ∀ (lv : xL) (st : List Value) (w : xW) (cb sb : Nat), xm_vc (xm_Xs p l e R s m args below meth c Qf D dA b A nL mc ms, Q, QX, hs, calls, rt) blk pc lv st w cb sb → xm_Xs p l e R s m args below meth c Qf D dA b A nL mc ms pc lv st w cb sb := by
  intro blk
  induction blk with
  | nil => exact fun pc _ lv st w cb sb h => h
  | cons x t ih =>
    obtain ⟨i, nx, cK, k, d⟩ := x
    intro pc hok lv st w cb sb h
    obtain ⟨hok1, hokt⟩ := hok
    have ih := ih nx hokt
    by_cases hd9 : d = 9
    · subst hd9
      intro H locs cells slots ls hJ hl hcb hsb
      have hnL : ls.size = nL := hl.size
      have h : xm_vcl (xm_Xs p l e R s m args below meth c Qf D dA b A nL mc ms, Q, QX, hs, calls, rt) (xm_vc (xm_Xs p l e R s m args below meth c Qf D dA b A nL mc ms, Q, QX, hs, calls, rt) t) nx k pc lv st w cb sb := h
      unfold xm_vcl at h
      split at h
      · rename_i n mc' ms' S hcall
        split at h
        · rename_i as rest hpop
          obtain ⟨h1, h2, h3, h4⟩ := h
          obtain ⟨l0, e1, e2, e3⟩ := xm_pop_eq n [] st as rest hpop
          rw [List.append_nil] at e2
          subst e2
          rw [e1]
          refine hok1 n mc' ms' S hcall p l e R s m args below meth c Qf D dA b A nL C0 hfr hlo as rest w _ _ H locs cells slots ls e3 h3 h4 hJ hnL (by omega) (by omega) (fun v w' H' locs' hv hJ' => ?_) (fun x q w' H' locs' ce hv hJ' hce hcv hcl => ?_)
          · have hst' : xm_cs b (v.toList ++ rest) = xm_cs b (xm_psh v rest) := by cases v <;> rfl
            rw [hst']
            exact ih lv _ w' _ _ hv H' locs' (cells + mc') (slots + ms') ls hJ' hl (by omega) (by omega)
          · have hE := hExc pc x q w' H' locs' (cells + mc') (slots + ms') ls (xm_cs b rest) ce hJ' hce hcv hcl
            split at hv
            · rename_i hh hhnd
              refine hE.2 hh hhnd ?_
              exact hv H' locs' (cells + mc') (slots + ms') ls hJ' hl (by omega) (by omega)
            · rename_i hhnd
              exact hE.1 hhnd hv (by omega) (by omega)
        · exact h.elim
      · exact h.elim
    · have hok2 : (∃ len, decode cc pc = .ok (i, len) ∧ (xm_isw i = false → len = xm_ln i ∧ nx = pc + xm_ln i)) ∧ xm_oki own init pc i cK k d := by
        match d, hd9, hok1 with
        | 0, _, h => exact h
        | 1, _, h => exact h
        | 2, _, h => exact h
        | 3, _, h => exact h
        | 4, _, h => exact h
        | 5, _, h => exact h
        | 6, _, h => exact h
        | 7, _, h => exact h
        | 8, _, h => exact h
        | n + 10, _, h => exact h
      have h2 : xm_vi (xm_Xs p l e R s m args below meth c Qf D dA b A nL mc ms, Q, QX, hs, calls, rt) (xm_vc (xm_Xs p l e R s m args below meth c Qf D dA b A nL mc ms, Q, QX, hs, calls, rt) t) i nx cK k d pc lv st w cb sb := by
        match d, hd9, h with
        | 0, _, h => exact h
        | 1, _, h => exact h
        | 2, _, h => exact h
        | 3, _, h => exact h
        | 4, _, h => exact h
        | 5, _, h => exact h
        | 6, _, h => exact h
        | 7, _, h => exact h
        | 8, _, h => exact h
        | n + 10, _, h => exact h
      exact xm_vi_ok C0 hinit hmc hms hRet hExc hok2 ih h2
end XM3

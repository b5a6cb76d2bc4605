/-! ===== the x machine's rows ===== -/
set_option maxRecDepth 100000
/-- no field is a float -/
theorem xm_noF : ∀ t j r, xm_cl[t]? = some r → j < r.2.2 → xm_fk (xm_ty t j) ≠ 3 := by
  have h : ∀ t, t < 21 → ∀ j, j < 56 → xm_fk (xm_ty t j) ≠ 3 := by decide +kernel
  intro t j r hr hj
  have ht : t < 21 := by
    have := (List.getElem?_eq_some_iff.mp hr).1
    simpa [xm_cl] using this
  have h2 : ∀ t, t < 21 → ∀ r, xm_cl[t]? = some r → r.2.2 ≤ 56 := by
    intro t ht r hr
    have : ∀ t, t < 21 → (xm_cl[t]?.map (fun r => r.2.2)).getD 0 ≤ 56 := by decide +kernel
    have := this t ht
    rw [hr] at this
    exact this
  exact h t ht j (Nat.lt_of_lt_of_le hj (h2 t ht r hr))
section XM2
variable {p : Program} {l : Launch} {e : Env} {R : Room} {s : State} {m : MethodId} {args : Array Value} {below : List Frame} {meth : Method} {c : Code} {Qf : State → Prop} {D : va_G} {dA : Nat → ClassId} {b : Nat → Nat} {A : Nat → Prop} {nL mc ms : Nat} {Iv : xI} {own : String} {cc : ByteArray}
variable {w : xW} {H : Heap} {locs : List Loc} {cells slots : Nat} {ls : Array Slot} {pc : Nat} {st : List Value}
theorem xm_fv_cv {ty : FieldType} {d : Nat} (a k : Nat) (h : xm_fk ty = d) : xm_fv b ty (w.2.1 a k) (w.2.2.1 a k) (w.2.2.2 a k) = xm_cv b (xm_fld w a k d) := by
  subst h
  unfold xm_fv xm_fld
  generalize xm_fk ty = z
  match z with
  | 0 => rfl
  | 1 =>
    show va_rf ((w.2.2.1 a k).map (xm_phi b)) = xm_cv b (va_rf (w.2.2.1 a k))
    cases w.2.2.1 a k <;> rfl
  | z + 2 => rfl
theorem xm_at.kept {w' : xW} {H' : Heap} {a t n : Nat} (h : xm_at D dA b w H a t n) (hq : H'[xm_phi b a]? = H[xm_phi b a]?) (h1 : ∀ k, w'.2.1 a k = w.2.1 a k) (h2 : ∀ k, w'.2.2.1 a k = w.2.2.1 a k) (h3 : ∀ k, w'.2.2.2 a k = w.2.2.2 a k) : xm_at D dA b w' H' a t n := by
  have e1 : w'.2.1 a = w.2.1 a := funext h1
  have e2 : w'.2.2.1 a = w.2.2.1 a := funext h2
  have e3 : w'.2.2.2 a = w.2.2.2 a := funext h3
  unfold xm_at at *
  rw [e1, e2, e3]
  rcases h with ⟨ht, r, h4, h5, h6⟩ | ⟨h4, h5, h6, h7⟩
  · exact Or.inl ⟨ht, r, h4, h5, h6.kept hq⟩
  · exact Or.inr ⟨h4, h5, h6, hq.trans h7⟩
theorem xm_at.lt {a t n : Nat} (h : xm_at D dA b w H a t n) : xm_phi b a < H.size := by
  rcases h with ⟨ht, r, h4, h5, cell, h6, -⟩ | ⟨h4, h5, h6, h7⟩
  · exact (Array.getElem?_eq_some_iff.mp h6).1
  · exact (Array.getElem?_eq_some_iff.mp h7).1
theorem xm_R.lt {a : Nat} (h : xm_R D dA b w H) (ha : w.1 a ≠ none) : xm_phi b a < H.size := by
  cases h1 : w.1 a with
  | none => exact absurd h1 ha
  | some q => exact (h.1 a q.1 q.2 h1).lt
theorem xm_R.upd {w' : xW} {H' : Heap} {a : Nat} (hR : xm_R D dA b w H) (hl : w'.1 = w.1) (ha0 : w.1 a ≠ none)
    (ho : ∀ a', a' ≠ a → ∀ k, w'.2.1 a' k = w.2.1 a' k ∧ w'.2.2.1 a' k = w.2.2.1 a' k ∧ w'.2.2.2 a' k = w.2.2.2 a' k) (hq : ∀ q, q ≠ xm_phi b a → H'[q]? = H[q]?) (ha : ∀ t n, w.1 a = some (t, n) → xm_at D dA b w' H' a (xm_bt t) n) : xm_R D dA b w' H' := by
  refine ⟨fun a' t n h => ?_, fun a1 a2 h1 h2 h3 => hR.2 a1 a2 (by rw [← hl]; exact h1) (by rw [← hl]; exact h2) h3⟩
  rw [hl] at h
  by_cases e : a' = a
  · subst e
    exact ha t n h
  · exact (hR.1 a' t n h).kept (hq _ (fun z => e (hR.2 a' a (by rw [h]; exact fun z => by cases z) ha0 z))) (fun k => (ho a' e k).1) (fun k => (ho a' e k).2.1) (fun k => (ho a' e k).2.2)
theorem xm_J.upd {H0 : Heap} {w' : xW} {H' : Heap} {a k : Nat} (hJ : xm_J D dA b A H0 w H locs) (hl : w'.1 = w.1) (hwr : ∃ t n, w.1 a = some (t, n) ∧ t < 200)
    (ho : ∀ a', a' ≠ a → ∀ k, w'.2.1 a' k = w.2.1 a' k ∧ w'.2.2.1 a' k = w.2.2.1 a' k ∧ w'.2.2.2 a' k = w.2.2.2 a' k) (hz : H'.size = H.size) (hq : ∀ q, q ≠ xm_phi b a → H'[q]? = H[q]?) (ha : ∀ t n, w.1 a = some (t, n) → xm_at D dA b w' H' a (xm_bt t) n) : xm_J D dA b A H0 w' H' (locs ++ [⟨xm_phi b a, k⟩]) := by
  obtain ⟨t, n, hw, h2⟩ := hwr
  refine ⟨hJ.1.upd hl (by rw [hw]; exact fun z => by cases z) ho hq ha, fun a' t' n' h => hJ.2.1 a' t' n' (by rw [← hl]; exact h), hJ.2.2.put hz hq ?_⟩
  rcases hJ.2.1 a t n hw with h | h
  · exact h.2
  · omega
theorem xm_u2_ne {α : Type} {f : Nat → Nat → α} {a k : Nat} {v : α} {a' : Nat} (h : a' ≠ a) (j : Nat) : xm_u2 f a k v a' j = f a' j := by simp [xm_u2, h]
theorem xm_u2_at {α : Type} {f : Nat → Nat → α} {a k : Nat} {v : α} (j : Nat) : xm_u2 f a k v a j = if j = k then v else f a j := by simp [xm_u2]
theorem xm_va (hK : xm_K D dA s) : va_K D xm_cl [] s := ⟨hK.1, fun k q h => by simp at h⟩
/-- a field's place -/
theorem xm_fld_at {a t n k : Nat} {r : vw_C} (hJ : xm_J D dA b A s.heap w H locs) (hl : w.1 a = some (t, n)) (hr : xm_cl[xm_bt t]? = some r) :
    n = r.2.2 ∧ t_OB (xm_phi b a) (D.1 (xm_bt t)) r.2.2 (D.2 (xm_bt t)) H (fun k => xm_fv b (xm_ty (xm_bt t) k) (w.2.1 a k) (w.2.2.1 a k) (w.2.2.2 a k)) := by
  rcases hJ.1.1 a t n hl with ⟨ht, r', h4, h5, h6⟩ | ⟨h4, -⟩
  · cases hr.symm.trans h4
    subst h5
    exact ⟨rfl, h6⟩
  · have := (List.getElem?_eq_some_iff.mp hr).1
    simp [xm_cl] at this
    omega
theorem xr_gf {idx cK k d a t n : Nat} (C0 : xm_Cx p l s m args meth c D dA A nL Iv own cc) (hJ : xm_J D dA b A s.heap w H locs) (hok : xm_fg own idx cK k d) (hdg : decode cc pc = .ok (.getfield idx, 3)) (hl : w.1 a = some (t, n)) (hs : xm_sub t cK = true)
    (kk : W p l e R s m args below meth c H locs cells slots Qf (F0 m (pc + 3) ls (xm_cs b (xm_fld w a k d :: st)))) : W p l e R s m args below meth c H locs cells slots Qf (F0 m pc ls (xm_cs b (.ref a :: st))) := by
  obtain ⟨hx, hb, -, hown, hts, hK, hN, -⟩ := C0
  obtain ⟨ref, name, desc, hlk, hall⟩ := hok
  obtain ⟨r, hr, hk, rfl, rfl, hsame, hd⟩ := hall t hs
  obtain ⟨-, cell, q1, q2, q3, q4⟩ := xm_fld_at hJ hl hr (k := k)
  obtain ⟨hin, hty, hnm⟩ := xm_cls_ok _ r hr
  obtain ⟨hS, hfc, kC, hkC, hkind⟩ := hK.1 _ r hr
  obtain ⟨cf, kf, fi, f, hi, hsl⟩ := hS k hk
  have hst := (u_facts hfc hkC (u_lays hts hin hk) hi).1
  have hi2 : s.fieldFound? ref (r.2.1 k).2.1 (r.2.1 k).2.2.1 = some (cf, kf, fi, f) := by
    rcases hsame with e | e
    · rw [e]; exact hi
    · exact u_same (hts _ e) _ hi
  have hsv : cell.slots[f.slot]? = some (xm_cv b (xm_fld w a k d)) := by
    rw [hsl, q4 k hk]
    exact congrArg some (xm_fv_cv a k hd)
  have hkn : cell.vm ≠ .unknown := by rw [q3]; exact fun h => by cases h
  rcases hlk with h | ⟨host, h⟩
  · exact W.getf hx hb hown (hts _ h) hi2 hst q1 hkn hsv rfl rfl hdg kk
  · exact va_Wgetf hx hb hown (va_Nw.use rfl (hN _ h rfl)) hi2 hst q1 hkn hsv rfl rfl hdg kk
/-- a field is written -/
theorem xr_pf {idx cK k d a t n : Nat} {init : Bool} {v : Value} {w' : xW} (C0 : xm_Cx p l s m args meth c D dA A nL Iv own cc) (hinit : init = true → meth.name = "<init>") (hJ : xm_J D dA b A s.heap w H locs) (hok : xm_fp own init idx cK k d) (hdg : decode cc pc = .ok (.putfield idx, 3)) (hl : w.1 a = some (t, n)) (hs : xm_sub t cK = true) (h200 : t < 200)
    (hv : (d = 0 ∧ ∃ x, v = .int x ∧ w' = xm_si w a k x) ∨ (d = 1 ∧ ∃ x, v = va_rf x ∧ w' = xm_sr w a k x) ∨ (d = 2 ∧ ∃ x, v = .long x ∧ w' = xm_sj w a k x) ∨ (d = 4 ∧ ∃ x, v = .int x ∧ (x = 0 ∨ x = 1) ∧ w' = xm_si w a k x))
    (kk : ∀ (H' : Heap) (locs' : List Loc), xm_J D dA b A s.heap w' H' locs' → W p l e R s m args below meth c H' locs' cells slots Qf (F0 m (pc + 3) ls (xm_cs b st))) : W p l e R s m args below meth c H locs cells slots Qf (F0 m pc ls (xm_cs b (v :: .ref a :: st))) := by
  obtain ⟨hx, hb, -, hown, hts, hK, hN, -⟩ := C0
  obtain ⟨⟨ref, name, desc, hlk, hall⟩, hp⟩ := hok
  obtain ⟨r, hr, hk, rfl, rfl, hsame, hd⟩ := hall t hs
  have hbt := xm_bt_lt h200
  have hr0 := hr
  rw [hbt] at hr hd
  obtain ⟨hpf, hfin⟩ := hp t hs h200 r hr
  obtain ⟨hn, cell, q1, q2, q3, q4⟩ := xm_fld_at hJ hl hr0 (k := k)
  rw [hbt] at q2 q4
  obtain ⟨hin, hty, hnm⟩ := xm_cls_ok t r hr
  obtain ⟨hS, hfc, kC, hkC, hkind⟩ := hK.1 t r hr
  obtain ⟨cf, kf, fi, f, hi, hsl⟩ := hS k hk
  have hap := va_apart (own := own) (T := r.2.1) (N := r.2.2) (C := r.1) hts hin (xm_ty t) hty hnm (xm_va hK) hr
  have hst := (u_facts hfc hkC (u_lays hts hin hk) hi).1
  have hi2 : s.fieldFound? ref (r.2.1 k).2.1 (r.2.1 k).2.2.1 = some (cf, kf, fi, f) := by
    rcases hsame with e | e
    · rw [e]; exact hi
    · exact u_same (hts _ e) _ hi
  have hnf : narrow (xm_ty t k) (xm_cv b v) = xm_cv b v ∧ fits (xm_ty t k) (xm_cv b v) = true := by
    rcases hpf with ⟨e, e2⟩ | ⟨e, e2⟩ | ⟨e, e2⟩ | ⟨e, e2⟩
    · rcases hv with ⟨-, x, rfl, -⟩ | ⟨e3, -⟩ | ⟨e3, -⟩ | ⟨e3, -⟩
      · rw [e2]; exact ⟨rfl, rfl⟩
      · omega
      · omega
      · omega
    · rcases hv with ⟨e3, -⟩ | ⟨-, x, rfl, -⟩ | ⟨e3, -⟩ | ⟨e3, -⟩
      · omega
      · rcases e2 with ⟨C, e2⟩ | ⟨C, e2⟩ <;> rw [e2] <;> cases x <;> exact ⟨rfl, rfl⟩
      · omega
      · omega
    · rcases hv with ⟨e3, -⟩ | ⟨e3, -⟩ | ⟨-, x, rfl, -⟩ | ⟨e3, -⟩
      · omega
      · omega
      · rw [e2]; exact ⟨rfl, rfl⟩
      · omega
    · rcases hv with ⟨e3, -⟩ | ⟨e3, -⟩ | ⟨e3, -⟩ | ⟨-, x, rfl, e4, -⟩
      · omega
      · omega
      · omega
      · rcases e2 with e2 | e2 <;> rw [e2] <;> rcases e4 with rfl | rfl <;> exact ⟨rfl, rfl⟩
  have hw1 : w'.1 = w.1 := by rcases hv with ⟨-, x, -, rfl⟩ | ⟨-, x, -, rfl⟩ | ⟨-, x, -, rfl⟩ | ⟨-, x, -, -, rfl⟩ <;> rfl
  have hwo : ∀ a', a' ≠ a → ∀ j, w'.2.1 a' j = w.2.1 a' j ∧ w'.2.2.1 a' j = w.2.2.1 a' j ∧ w'.2.2.2 a' j = w.2.2.2 a' j := by
    intro a' h j
    rcases hv with ⟨-, x, -, rfl⟩ | ⟨-, x, -, rfl⟩ | ⟨-, x, -, rfl⟩ | ⟨-, x, -, -, rfl⟩
    · exact ⟨xm_u2_ne h j, rfl, rfl⟩
    · exact ⟨rfl, xm_u2_ne h j, rfl⟩
    · exact ⟨rfl, rfl, xm_u2_ne h j⟩
    · exact ⟨xm_u2_ne h j, rfl, rfl⟩
  have hvj : ∀ j, updV (fun k => xm_fv b (xm_ty t k) (w.2.1 a k) (w.2.2.1 a k) (w.2.2.2 a k)) k (xm_cv b v) j = xm_fv b (xm_ty t j) (w'.2.1 a j) (w'.2.2.1 a j) (w'.2.2.2 a j) := by
    intro j
    by_cases hj : j = k
    · subst hj
      rw [xm_fv_cv a j hd]
      rcases hv with ⟨rfl, x, rfl, rfl⟩ | ⟨rfl, x, rfl, rfl⟩ | ⟨rfl, x, rfl, rfl⟩ | ⟨rfl, x, rfl, -, rfl⟩
      · simp [updV, xm_fld, xm_si, xm_u2, xm_d4]
      · simp [updV, xm_fld, xm_sr, xm_u2, xm_d4]
      · simp [updV, xm_fld, xm_sj, xm_u2, xm_d4]
      · simp [updV, xm_fld, xm_si, xm_u2, xm_d4]
    · have e1 : w'.2.1 a j = w.2.1 a j ∧ w'.2.2.1 a j = w.2.2.1 a j ∧ w'.2.2.2 a j = w.2.2.2 a j := by
        rcases hv with ⟨-, x, -, rfl⟩ | ⟨-, x, -, rfl⟩ | ⟨-, x, -, rfl⟩ | ⟨-, x, -, -, rfl⟩ <;> simp [xm_si, xm_sr, xm_sj, xm_u2, hj]
      rw [e1.1, e1.2.1, e1.2.2]
      simp [updV, hj]
  have fin : ∀ H' : Heap, H'[xm_phi b a]? = some (cell.setSlot f.slot (xm_cv b v)) → H'.size = H.size → (∀ q, q ≠ xm_phi b a → H'[q]? = H[q]?) → W p l e R s m args below meth c H' (locs ++ [⟨xm_phi b a, f.slot⟩]) cells slots Qf (F0 m (pc + 3) ls (xm_cs b st)) := by
    intro H' e1 e2 e3
    refine kk H' _ (hJ.upd hw1 ⟨t, n, hl, h200⟩ hwo e2 e3 (fun t' n' h' => ?_))
    cases hl.symm.trans h'
    rw [hbt]
    have ht : t < 100 := by
      have := (List.getElem?_eq_some_iff.mp hr).1
      simp [xm_cl] at this
      omega
    rw [hsl] at e1
    refine Or.inl ⟨ht, r, hr, hn, ?_⟩
    rw [hn]
    exact t_OB.to (V := updV (fun k => xm_fv b (xm_ty t k) (w.2.1 a k) (w.2.2.1 a k) (w.2.2.2 a k)) k (xm_cv b v)) ⟨_, e1, q2, q3, t_set q4 hap hk _⟩ (fun j _ => hvj j)
  have hlay := hts _ (hin _ (u_in_lay hk))
  unfold u_lay at hlay
  rcases hfin with hf | ⟨hf, hi0, hdecl, ref', hlk', hrf'⟩
  · rw [if_neg (by rw [hf]; decide)] at hlay
    have h6 := u_store hfc hkC hkind hlay hi (hty k hk) hnf.1 hnf.2
    rcases hlk with h | ⟨host, h⟩
    · exact W.putK hx hb (f := f) ⟨hown, hts _ h, ⟨_, _, _, hi2⟩, hst⟩ (by rw [q2]; exact h6) q1 q3 (by rw [hsl]; exact k2_hasslot (q4 k hk)) rfl rfl hdg fin
    · exact va_WputK hx hb (f := f) hown (va_Nw.use rfl (hN _ h rfl)) hi2 hst (by rw [q2]; exact h6) q1 q3 (by rw [hsl]; exact k2_hasslot (q4 k hk)) rfl rfl hdg fin
  · rw [if_pos hf] at hlay
    have hcf : m.cls = cf := by
      obtain ⟨_, _, c', _, _, _, -, -, hf', -, -, -, hown2, -⟩ := Cond.laysFinal_spec hlay
      have e1 : c' = cf := by have := hi.symm.trans hf'; simp at this; exact this.1.symm
      rw [hdecl] at hown2
      rw [← e1]; exact Option.some.inj (hown.symm.trans hown2)
    have h6 := u_fits hfc hkC hkind (Or.inr hlay) hi (hty k hk) hnf.1 hnf.2
    exact W.putFinK hx hb hown (hts _ hlk') (by rw [hrf']; exact hi) hst hcf (hinit hi0) (by rw [q2]; exact h6) q1 q3 (by rw [hsl]; exact k2_hasslot (q4 k hk)) rfl rfl hdg fin
/-- an array's cell -/
theorem xm_arr_at {a t t0 n : Nat} (hJ : xm_J D dA b A s.heap w H locs) (hl : w.1 a = some (t0, n)) (ht0 : xm_bt t0 = t) (ht : 100 ≤ t) : t < 113 ∧ (t < 105 ∨ 110 ≤ t) ∧ H[xm_phi b a]? = some (arrV (dA t) n (fun k => xm_fv b (xm_aty t) (w.2.1 a k) (w.2.2.1 a k) (w.2.2.2 a k))) := by
  subst ht0
  rcases hJ.1.1 a t0 n hl with ⟨h1, -⟩ | ⟨h1, h2, h3, h4⟩
  · omega
  · exact ⟨h2, h3, h4⟩
theorem xm_fk_arr {t : Nat} (h1 : 110 ≤ t) (h2 : t < 113) : xm_fk (xm_aty t) = 1 ∧ (xm_aty t).isReference = true := by
  rcases (show t = 110 ∨ t = 111 ∨ t = 112 by omega) with rfl | rfl | rfl <;> exact ⟨rfl, rfl⟩
theorem xr_ald {d a t t0 n : Nat} {i : Int32} {g : Instr} (C0 : xm_Cx p l s m args meth c D dA A nL Iv own cc) (hJ : xm_J D dA b A s.heap w H locs) (hdg : decode cc pc = .ok (g, 1)) (hl : w.1 a = some (t0, n)) (ht0 : xm_bt t0 = t) (hin : vp_in i n)
    (hg : (g = .iaload ∧ t = 100 ∧ d = 0) ∨ (g = .baload ∧ (t = 101 ∨ t = 102) ∧ d = 0) ∨ (g = .aaload ∧ 110 ≤ t ∧ d = 1) ∨ (g = .laload ∧ t = 104 ∧ d = 2))
    (kk : W p l e R s m args below meth c H locs cells slots Qf (F0 m (pc + 1) ls (xm_cs b (xm_fld w a i.toNatClampNeg d :: st)))) : W p l e R s m args below meth c H locs cells slots Qf (F0 m pc ls (xm_cs b (.int i :: .ref a :: st))) := by
  obtain ⟨hx, hb, -, hown, hts, hK, hN, -⟩ := C0
  have ht : 100 ≤ t := by rcases hg with h | h | h | h <;> omega
  obtain ⟨h1, h2, h3⟩ := xm_arr_at hJ hl ht0 ht
  have hlt : i.toNatClampNeg < n := Nat.not_le.mp fun q => hin (Or.inr q)
  have hKt := (hK.2 t ht h1 h2).1
  have hsz : ¬ (i < 0 ∨ (arrV (dA t) n (fun k => xm_fv b (xm_aty t) (w.2.1 a k) (w.2.2.1 a k) (w.2.2.2 a k))).slots.size ≤ i.toNatClampNeg) := by rw [arrV_size]; exact hin
  have hrd : xm_fk (xm_aty t) = d → (arrV (dA t) n (fun k => xm_fv b (xm_aty t) (w.2.1 a k) (w.2.2.1 a k) (w.2.2.2 a k))).slots[i.toNatClampNeg]? = some (xm_cv b (xm_fld w a i.toNatClampNeg d)) := fun h => by rw [arrV_read _ _ hlt, xm_fv_cv a _ h]
  rcases hg with ⟨rfl, rfl, rfl⟩ | ⟨rfl, rfl | rfl, rfl⟩ | ⟨rfl, h4, rfl⟩ | ⟨rfl, rfl, rfl⟩
  · exact W.iald hx hb h3 (hKt n _) (fun q => by cases q) hsz (hrd rfl) rfl rfl hdg kk
  · exact W.bald hx hb h3 (hKt n _) (fun q => by cases q) hsz (hrd rfl) rfl rfl hdg kk
  · exact W.zald hx hb h3 (hKt n _) (fun q => by cases q) hsz (hrd rfl) rfl rfl hdg kk
  · exact W.aald hx hb h3 (hKt n _) (xm_fk_arr h4 h1).2 (fun q => by cases q) hsz (hrd (xm_fk_arr h4 h1).1) rfl rfl hdg kk
  · exact W.lald hx hb h3 (hKt n _) (fun q => by cases q) hsz (hrd rfl) rfl rfl hdg kk
theorem xm_arr_upd {H0 : Heap} {a t n k : Nat} {w' : xW} {v : Value} {H' : Heap} (hJ : xm_J D dA b A H0 w H locs) (hl : w.1 a = some (t, n)) (ht : 100 ≤ t) (h2 : t < 113 ∧ (t < 105 ∨ 110 ≤ t)) (hw1 : w'.1 = w.1)
    (hwo : ∀ a', a' ≠ a → ∀ j, w'.2.1 a' j = w.2.1 a' j ∧ w'.2.2.1 a' j = w.2.2.1 a' j ∧ w'.2.2.2 a' j = w.2.2.2 a' j)
    (hv : ∀ j, xm_fv b (xm_aty t) (w'.2.1 a j) (w'.2.2.1 a j) (w'.2.2.2 a j) = if j = k then v else xm_fv b (xm_aty t) (w.2.1 a j) (w.2.2.1 a j) (w.2.2.2 a j))
    (e1 : H'[xm_phi b a]? = some ((arrV (dA t) n (fun k => xm_fv b (xm_aty t) (w.2.1 a k) (w.2.2.1 a k) (w.2.2.2 a k))).setSlot k v)) (e2 : H'.size = H.size) (e3 : ∀ q, q ≠ xm_phi b a → H'[q]? = H[q]?) : xm_J D dA b A H0 w' H' (locs ++ [⟨xm_phi b a, k⟩]) := by
  refine hJ.upd hw1 ⟨t, n, hl, by omega⟩ hwo e2 e3 (fun t' n' h' => ?_)
  cases hl.symm.trans h'
  rw [xm_bt_lt (by omega)]
  refine Or.inr ⟨ht, h2.1, h2.2, ?_⟩
  rw [e1, arrV_store]
  congr 2
  funext j
  rw [hv j]
  rfl
theorem xr_iast {a t n : Nat} {i x : Int32} {g : Instr} (C0 : xm_Cx p l s m args meth c D dA A nL Iv own cc) (hJ : xm_J D dA b A s.heap w H locs) (hdg : decode cc pc = .ok (g, 1)) (hl : w.1 a = some (t, n)) (hin : vp_in i n) {x' : Int32}
    (hg : (g = .iastore ∧ t = 100 ∧ x' = x) ∨ (g = .bastore ∧ (t = 101 ∨ t = 102) ∧ x' = vp_nar (xm_aty t) x))
    (kk : ∀ (H' : Heap) (locs' : List Loc), xm_J D dA b A s.heap (xm_si w a i.toNatClampNeg x') H' locs' → W p l e R s m args below meth c H' locs' cells slots Qf (F0 m (pc + 1) ls (xm_cs b st))) : W p l e R s m args below meth c H locs cells slots Qf (F0 m pc ls (xm_cs b (.int x :: .int i :: .ref a :: st))) := by
  obtain ⟨hx, hb, -, hown, hts, hK, hN, -⟩ := C0
  have ht : 100 ≤ t := by rcases hg with h | h <;> omega
  have h113 : t < 113 := by rcases hg with h | h <;> omega
  obtain ⟨h1, h2, h3⟩ := xm_arr_at hJ hl (xm_bt_lt (by omega)) ht
  have hKt := (hK.2 t ht h1 h2).1
  have hsz : ¬ (i < 0 ∨ (arrV (dA t) n (fun k => xm_fv b (xm_aty t) (w.2.1 a k) (w.2.2.1 a k) (w.2.2.2 a k))).slots.size ≤ i.toNatClampNeg) := by rw [arrV_size]; exact hin
  have hfk : xm_fk (xm_aty t) = 0 := by rcases hg with ⟨-, rfl, -⟩ | ⟨-, rfl | rfl, -⟩ <;> rfl
  have hup : ∀ H' : Heap, H'[xm_phi b a]? = some ((arrV (dA t) n (fun k => xm_fv b (xm_aty t) (w.2.1 a k) (w.2.2.1 a k) (w.2.2.2 a k))).setSlot i.toNatClampNeg (.int x')) → H'.size = H.size → (∀ q, q ≠ xm_phi b a → H'[q]? = H[q]?) → W p l e R s m args below meth c H' (locs ++ [⟨xm_phi b a, i.toNatClampNeg⟩]) cells slots Qf (F0 m (pc + 1) ls (xm_cs b st)) := by
    intro H' e1 e2 e3
    refine kk H' _ (xm_arr_upd hJ hl ht ⟨h1, h2⟩ rfl (fun a' h j => ⟨xm_u2_ne h j, rfl, rfl⟩) (fun j => ?_) e1 e2 e3)
    by_cases hj : j = i.toNatClampNeg
    · rw [if_pos hj]
      subst hj
      unfold xm_fv
      rw [hfk]
      simp [xm_si, xm_u2]
    · rw [if_neg hj]
      simp [xm_si, xm_u2, hj]
  rcases hg with ⟨rfl, rfl, rfl⟩ | ⟨rfl, rfl | rfl, rfl⟩
  · exact W.iast hx hb h3 (hKt n _) (fun q => by cases q) hsz rfl rfl hdg hup
  · exact W.bast hx hb h3 (hKt n _) (fun q => by cases q) hsz rfl rfl hdg hup
  · exact W.zast hx hb h3 (hKt n _) (fun q => by cases q) hsz rfl rfl hdg hup
theorem xr_last {a n : Nat} {i : Int32} {x : Int64} (C0 : xm_Cx p l s m args meth c D dA A nL Iv own cc) (hJ : xm_J D dA b A s.heap w H locs) (hdg : decode cc pc = .ok (.lastore, 1)) (hl : w.1 a = some (104, n)) (hin : vp_in i n)
    (kk : ∀ (H' : Heap) (locs' : List Loc), xm_J D dA b A s.heap (xm_sj w a i.toNatClampNeg x) H' locs' → W p l e R s m args below meth c H' locs' cells slots Qf (F0 m (pc + 1) ls (xm_cs b st))) : W p l e R s m args below meth c H locs cells slots Qf (F0 m pc ls (xm_cs b (.long x :: .int i :: .ref a :: st))) := by
  obtain ⟨hx, hb, -, hown, hts, hK, hN, -⟩ := C0
  obtain ⟨h1, h2, h3⟩ := xm_arr_at hJ hl (xm_bt_lt (by omega)) (by omega)
  have hKt := (hK.2 104 (by omega) h1 h2).1
  refine W.last hx hb h3 (hKt n _) (fun q => by cases q) (by rw [arrV_size]; exact hin) rfl rfl hdg fun H' e1 e2 e3 => ?_
  refine kk H' _ (xm_arr_upd hJ hl (by omega) ⟨h1, h2⟩ rfl (fun a' h j => ⟨rfl, rfl, xm_u2_ne h j⟩) (fun j => ?_) e1 e2 e3)
  by_cases hj : j = i.toNatClampNeg
  · rw [if_pos hj]
    subst hj
    simp [xm_sj, xm_u2, xm_fv, xm_aty, xm_fk]
  · rw [if_neg hj]
    simp [xm_sj, xm_u2, hj]
theorem xr_aln {a t t0 n : Nat} (C0 : xm_Cx p l s m args meth c D dA A nL Iv own cc) (hJ : xm_J D dA b A s.heap w H locs) (hdg : decode cc pc = .ok (.arraylength, 1)) (hl : w.1 a = some (t0, n)) (ht0 : xm_bt t0 = t) (ht : 100 ≤ t)
    (kk : W p l e R s m args below meth c H locs cells slots Qf (F0 m (pc + 1) ls (xm_cs b (.int (Int32.ofNat n) :: st)))) : W p l e R s m args below meth c H locs cells slots Qf (F0 m pc ls (xm_cs b (.ref a :: st))) := by
  obtain ⟨hx, hb, -, hown, hts, hK, hN, -⟩ := C0
  obtain ⟨h1, h2, h3⟩ := xm_arr_at hJ hl ht0 ht
  have hKt := (hK.2 t ht h1 h2).1
  exact W.alen (n := Int32.ofNat n) hx hb h3 (hKt n _) (by rw [arrV_size] <;> rfl) rfl rfl hdg kk
/-- a new cell at the heap's end -/
theorem xm_J.new {H0 : Heap} {t n : Nat} {H' : Heap} (hJ : xm_J D dA b A H0 w H locs) (h200 : t < 200) (hA : ∀ q : Nat, H0.size ≤ q → A q) (hz : H'.size = H.size + 1) (ho : ∀ q, q < H.size → H'[q]? = H[q]?)
    (hn : xm_at D dA b (xm_nw w (H.size + 1000) t n) H' (H.size + 1000) t n) : w.1 (H.size + 1000) = none ∧ xm_J D dA b A H0 (xm_nw w (H.size + 1000) t n) H' locs := by
  have hphi : xm_phi b (H.size + 1000) = H.size := by
    unfold xm_phi
    rw [if_neg (by omega)]
    omega
  have hnone : w.1 (H.size + 1000) = none := by
    cases h : w.1 (H.size + 1000) with
    | none => rfl
    | some q =>
      have := (hJ.1.1 _ q.1 q.2 h).lt
      rw [hphi] at this
      omega
  have hlt : ∀ a, w.1 a ≠ none → xm_phi b a < H.size := fun a h => hJ.1.lt h
  have hlay : ∀ a, a ≠ H.size + 1000 → (xm_nw w (H.size + 1000) t n).1 a = w.1 a := fun a h => by simp [xm_nw, xm_u1, h]
  refine ⟨hnone, ⟨fun a t' n' h => ?_, fun a a' h1 h2 h3 => ?_⟩, fun a t' n' h => ?_, Nat.le_trans hJ.2.2.1 (by omega), fun q h1 h2 => (ho q (Nat.lt_of_lt_of_le h1 hJ.2.2.1)).trans (hJ.2.2.2.1 q h1 h2), hJ.2.2.2.2⟩
  · by_cases e : a = H.size + 1000
    · subst e
      have : (xm_nw w (H.size + 1000) t n).1 (H.size + 1000) = some (t, n) := by simp [xm_nw, xm_u1]
      cases this.symm.trans h
      rw [xm_bt_lt h200]
      exact hn
    · rw [hlay a e] at h
      exact (hJ.1.1 a t' n' h).kept (ho _ (hJ.1.1 a t' n' h).lt) (fun k => by simp [xm_nw, xm_ua, e]) (fun k => by simp [xm_nw, xm_ua, e]) (fun k => by simp [xm_nw, xm_ua, e])
  · by_cases e : a = H.size + 1000 <;> by_cases e' : a' = H.size + 1000
    · rw [e, e']
    · rw [hlay a' e'] at h2
      have := hlt a' h2
      rw [← h3, e, hphi] at this
      omega
    · rw [hlay a e] at h1
      have := hlt a h1
      rw [h3, e', hphi] at this
      omega
    · rw [hlay a e] at h1
      rw [hlay a' e'] at h2
      exact hJ.1.2 a a' h1 h2 h3
  · by_cases e : a = H.size + 1000
    · subst e
      have : (xm_nw w (H.size + 1000) t n).1 (H.size + 1000) = some (t, n) := by simp [xm_nw, xm_u1]
      cases this.symm.trans h
      rw [hphi]
      exact Or.inl ⟨h200, hA _ hJ.2.2.1⟩
    · rw [hlay a e] at h
      exact hJ.2.1 a t' n' h
theorem xr_nwa {atype : ArrayType} {cK : Nat} {n : Int32} (C0 : xm_Cx p l s m args meth c D dA A nL Iv own cc) (hJ : xm_J D dA b A s.heap w H locs) (hdg : decode cc pc = .ok (.newarray atype, 2)) (hok : Cond.arrayClass (newarray.typeOf atype) ∈ lw_all ∧ newarray.typeOf atype = xm_aty cK ∧ 100 ≤ cK ∧ cK < 105)
    (hn : ¬ n < 0) (hb6 : n.toNatClampNeg ≤ 60000000) (hc : cells + 1 ≤ R.cells) (hs : slots + n.toNatClampNeg ≤ R.slots)
    (kk : ∀ (a : Nat) (H' : Heap), w.1 a = none → 1000 ≤ a → xm_J D dA b A s.heap (xm_nw w a cK n.toNatClampNeg) H' locs → W p l e R s m args below meth c H' locs (cells + 1) (slots + n.toNatClampNeg) Qf (F0 m (pc + 2) ls (xm_cs b (.ref a :: st)))) : W p l e R s m args below meth c H locs cells slots Qf (F0 m pc ls (xm_cs b (.int n :: st))) := by
  obtain ⟨hx, hb, -, hown, hts, hK, hN, -, hA, -⟩ := C0
  obtain ⟨hw, hty, h1, h2⟩ := hok
  have hcb : componentBytes (newarray.typeOf atype) ≤ 8 := by cases atype <;> decide
  refine va_newaK hx hb (hts _ hw) rfl hdg rfl hn rfl (by
    have := Nat.mul_le_mul hb6 hcb
    omega) hc hs rfl fun H' cA e1 e2 e3 e4 e5 => ?_
  have hphi : xm_phi b (H.size + 1000) = H.size := by
    unfold xm_phi
    rw [if_neg (by omega)]
    omega
  have hcA : cA = dA cK := by
    have h3 := (hK.2 cK h1 (by omega) (Or.inl h2)).2
    rw [hty] at e5
    have h4 : s.vm.findClass ("[" ++ (xm_aty cK).toString) = some (dA cK) := by
      rcases (show cK = 100 ∨ cK = 101 ∨ cK = 102 ∨ cK = 103 ∨ cK = 104 by omega) with rfl | rfl | rfl | rfl | rfl <;> exact h3
    exact Option.some.inj (e5.symm.trans h4)
  obtain ⟨g1, g2⟩ := hJ.new (t := cK) (n := n.toNatClampNeg) (by omega) hA e2 e3 (Or.inr ⟨h1, by omega, Or.inl h2, by
    rw [hphi, e1, hcA]
    congr 2
    funext k
    rw [hty]
    rcases (show cK = 100 ∨ cK = 101 ∨ cK = 102 ∨ cK = 103 ∨ cK = 104 by omega) with rfl | rfl | rfl | rfl | rfl <;> simp [xm_aty, defaultValue, xm_fv, xm_fk, xm_nw, xm_ua]⟩)
  have := kk (H.size + 1000) H' g1 (by omega) g2
  rw [show xm_cs b (.ref (H.size + 1000) :: st) = .ref H.size :: xm_cs b st by simp [xm_cs, xm_cv, hphi]] at this
  exact this
theorem xr_nwo {idx cK k : Nat} (C0 : xm_Cx p l s m args meth c D dA A nL Iv own cc) (hJ : xm_J D dA b A s.heap w H locs) (hdg : decode cc pc = .ok (.new idx, 3)) (hok : ∃ C T, xm_cl[cK]? = some (C, T, k) ∧ Cond.classLink own idx C ∈ lw_all ∧ Cond.instantiable C k ∈ lw_all ∧ Cond.initialized C ∈ lw_all)
    (hc : cells + 1 ≤ R.cells) (hs : slots + k ≤ R.slots)
    (kk : ∀ (a : Nat) (H' : Heap), w.1 a = none → 1000 ≤ a → xm_J D dA b A s.heap (xm_nw w a cK k) H' locs → W p l e R s m args below meth c H' locs (cells + 1) (slots + k) Qf (F0 m (pc + 3) ls (xm_cs b (.ref a :: st)))) : W p l e R s m args below meth c H locs cells slots Qf (F0 m pc ls (xm_cs b st)) := by
  obtain ⟨hx, hb, -, hown, hts, hK, hN, -, hA, -⟩ := C0
  obtain ⟨C, T, hr, w1, w2, w3⟩ := hok
  obtain ⟨hin, hty, hnm⟩ := xm_cls_ok cK _ hr
  have hKn := hK.1 cK _ hr
  refine W.newcK hx hb hown (hts _ w1) (hts _ w2) (hts _ w3) rfl hdg hc hs hKn.2.1 rfl fun H1 kC hkC e1 z1 o1 => ?_
  have hphi : xm_phi b (H.size + 1000) = H.size := by
    unfold xm_phi
    rw [if_neg (by omega)]
    omega
  have ht : cK < 100 := by
    have := (List.getElem?_eq_some_iff.mp hr).1
    simp [xm_cl] at this
    omega
  obtain ⟨g1, g2⟩ := hJ.new (t := cK) (n := k) (by omega) hA z1 o1 (Or.inl ⟨ht, _, hr, rfl, by
    rw [hphi]
    refine (u_born (xm_ty cK) hts hin hKn hkC e1 hty).to (fun j hj => ?_)
    have : defaultValue (xm_ty cK j) = xm_fv b (xm_ty cK j) 0 none 0 := by
      have hnf := xm_noF cK j _ hr hj
      unfold xm_fv
      revert hnf
      cases xm_ty cK j <;> simp [xm_fk, defaultValue, va_rf]
    rw [this]
    simp [xm_nw, xm_ua]⟩)
  have := kk (H.size + 1000) H1 g1 (by omega) g2
  rw [show xm_cs b (.ref (H.size + 1000) :: st) = .ref H.size :: xm_cs b st by simp [xm_cs, xm_cv, hphi]] at this
  exact this
end XM2

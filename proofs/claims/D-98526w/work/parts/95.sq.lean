/-! ===== rows taken as calls: arraycopy, checkcast, getstatic; what need and needThere throw ===== -/
set_option maxRecDepth 100000
def xm_sa (w : xW) (a : Nat) (f : Nat → Int32) : xW := (w.1, (fun b j => if b = a then f j else w.2.1 b j), w.2.2)
def S_acp : xS := fun as w K _ => ∃ a d sp dp n la ld, as = [.ref a, .int (nI sp), .ref d, .int (nI dp), .int (nI n)] ∧ w.1 a = some (100, la) ∧ w.1 d = some (100, ld) ∧ sp + n ≤ la ∧ dp + n ≤ ld ∧ la < 2 ^ 31 ∧ ld < 2 ^ 31 ∧ K none (xm_sa w d (va_cpy (w.2.1 a) (w.2.1 d) sp dp n))
theorem nI_nn {n : Nat} (h : n < 2 ^ 31) : ¬ nI n < 0 ∧ (nI n).toInt = (n : Int) ∧ (nI n).toNatClampNeg = n := by
  have e := nI_toInt h
  refine ⟨fun q => ?_, e, nI_clamp h⟩
  have := Int32.lt_iff_toInt_lt.mp q
  rw [e] at this
  simp at this
  omega
section
variable {Iv : xI} {own : String} {cc : ByteArray} {fr pc idx : Nat}
theorem xc_acp (hdg : decode cc pc = .ok (.invokestatic idx, 3)) (hl : Cond.methodLink own idx arraycopyName ∈ lw_all) (hfr : 2 ≤ fr) : xm_CallOK Iv own cc fr pc (pc + 3) 5 0 0 S_acp := by
  intro p l e R s m args below meth c Qf D dA b A nL C0 hR1 hR2 as rest w K KX H locs cells slots ls hn h8 hS hJ hsz hc hs kk kx
  obtain ⟨hx, hb, hml, hown, hts, hK, hN, hIv, hA, hst, hlk⟩ := id C0
  obtain ⟨a, d, sp, dp, n, la, ld, rfl, ha, hd, h1, h2, h3, h4, hk⟩ := hS
  obtain ⟨-, -, hc0⟩ := xm_arr_at hJ ha rfl (by decide)
  obtain ⟨-, -, hc1⟩ := xm_arr_at hJ hd rfl (by decide)
  have hc0 : H[xm_phi b a]? = some (arrV (dA 100) la (fun j => .int (w.2.1 a j))) := hc0
  have hc1 : H[xm_phi b d]? = some (arrV (dA 100) ld (fun j => .int (w.2.1 d j))) := hc1
  have hAd : A (xm_phi b d) := by
    rcases hJ.2.1 d 100 ld hd with h | h
    · exact h.2
    · omega
  obtain ⟨n1, n2, n3⟩ := nI_nn (n := sp) (by omega)
  obtain ⟨m1, m2, m3⟩ := nI_nn (n := dp) (by omega)
  obtain ⟨o1, o2, o3⟩ := nI_nn (n := n) (by omega)
  have hT100 := (hK.2 100 (by decide) (by decide) (by decide)).1
  obtain ⟨-, k0, hk0, cm0, hkk0⟩ := hT100 la (fun j => .int (w.2.1 a j))
  obtain ⟨-, k1, hk1, cm1, hkk1⟩ := hT100 ld (fun j => .int (w.2.1 d j))
  intro T hT X
  obtain ⟨vm', X', step⟩ := X.arraycopy hx hown (hts _ hl) (hts _ q308) (hts _ q307) (hts _ q132) (src := xm_phi b a) (dst := xm_phi b d) (cs := arrV (dA 100) la (fun j => .int (w.2.1 a j))) (cd := arrV (dA 100) ld (fun j => .int (w.2.1 d j))) (srcPos := nI sp) (destPos := nI dp) (n := nI n) (by rw [hT]; exact hc0) (by rw [hT]; exact hc1)
    (fun _ h => by cases h) (fun _ h => by cases h) (fun h => by cases h) (fun h => by cases h) hk0 hk1 hkk0 hkk1 (by rfl) n1 m1 o1
    (by rw [n2, o2]; show ¬ _ > ((arrV (dA 100) la (fun j => .int (w.2.1 a j))).slots.size : Int); rw [arrV_size]; omega)
    (by rw [m2, o2]; show ¬ _ > ((arrV (dA 100) ld (fun j => .int (w.2.1 d j))).slots.size : Int); rw [arrV_size]; omega)
    (fun vm₁ _ i hi => by
      rw [o3] at hi
      rw [n3]
      have e : (arrV (dA 100) la (fun j => Value.int (w.2.1 a j))).slots.getD (sp + i) .null = .int (w.2.1 a (sp + i)) := by
        rw [Array.getD_eq_getD_getElem?, arrV_read _ _ (by omega)]
        rfl
      refine ⟨?_, ?_⟩
      · rw [e]
        rfl
      · rw [e]
        exact trivial)
    (g := F0 m pc ls (xm_cs b ([Value.ref a, .int (nI sp), .ref d, .int (nI dp), .int (nI n)].reverse ++ rest))) rfl (hsz.trans hml.symm) (rest := xm_cs b rest) rfl (by rw [hb]; exact hdg) (by omega) (by
      have : ((xm_cs b rest).map fun v => v.category).sum ≤ 10 := by rw [xm_cs_cat, ← xm_ct_eq]; exact h8
      have h64 : nativeFrameWords "java/lang/System" "arraycopy" 5 ≤ 60 := by decide +kernel
      show 2 * 0 + _ + _ ≤ _
      omega)
  have e1 : copied (arrV (dA 100) la (fun j => Value.int (w.2.1 a j))) (arrV (dA 100) ld (fun j => Value.int (w.2.1 d j))) (nI sp) (nI dp) (nI n) = arrV (dA 100) ld (fun j => Value.int (va_cpy (w.2.1 a) (w.2.1 d) sp dp n j)) := by
    have := va_copied (fun z => Value.int z) (dA 100) (dA 100) (n1 := ld) (sp := sp) (dp := dp) (n := n) (w.2.1 a) (w.2.1 d) h1
    show (arrV (dA 100) ld _).storeRun (nI dp).toNatClampNeg ((arrV (dA 100) la _).stretch (nI sp).toNatClampNeg (nI n).toNatClampNeg) = _
    rw [n3, m3, o3]
    exact this
  rw [e1] at X' step
  have hlt : xm_phi b d < H.size := (Array.getElem?_eq_some_iff.mp hc1).1
  have hheap : ((T.setVm vm').setCell (xm_phi b d) (arrV (dA 100) ld (fun j => Value.int (va_cpy (w.2.1 a) (w.2.1 d) sp dp n j)))).heap = H.setIfInBounds (xm_phi b d) (arrV (dA 100) ld (fun j => Value.int (va_cpy (w.2.1 a) (w.2.1 d) sp dp n j))) := by rw [← hT]; rfl
  have oq : ∀ q : Nat, q ≠ xm_phi b d → (H.setIfInBounds (xm_phi b d) (arrV (dA 100) ld (fun j => Value.int (va_cpy (w.2.1 a) (w.2.1 d) sp dp n j))))[q]? = H[q]? := fun q hq => by simp [Array.getElem?_setIfInBounds, Ne.symm hq]
  have hd0 : w.1 d ≠ none := by rw [hd]; exact fun z => by cases z
  obtain ⟨t, a1, b1⟩ := kk none (xm_sa w d (va_cpy (w.2.1 a) (w.2.1 d) sp dp n)) _ _ hk ⟨hJ.1.upd (a := d) rfl hd0 (fun a' h k => ⟨if_neg h, rfl, rfl⟩) oq (fun t' n' h' => by
      cases hd.symm.trans h'
      refine Or.inr ⟨by decide, by decide, by decide, ?_⟩
      show (H.setIfInBounds (xm_phi b d) _)[xm_phi b d]? = some (arrV (dA 100) ld (fun k => .int (if d = d then _ else _)))
      simp [Array.getElem?_setIfInBounds, hlt]), hJ.2.1, by simp; exact hJ.2.2.1, fun q g1 g2 => by
      rw [oq q (fun e => g2 (by rw [e]; exact hAd))]
      exact hJ.2.2.2.1 q g1 g2, fun q hq => by
      rcases List.mem_append.mp hq with h | h
      · exact hJ.2.2.2.2 q h
      · obtain ⟨z, -, hz⟩ := List.mem_map.mp h
        rw [← hz]
        exact hAd⟩ _ hheap X'
  exact ⟨t, step t a1, b1⟩
def S_cst (tag : Nat) : xS := fun as w K _ => ∃ a n, as = [.ref a] ∧ w.1 a = some (tag, n) ∧ K (some (.ref a)) w
theorem xc_cst (tag : Nat) {r : vw_C} (hdg : decode cc pc = .ok (.checkcast idx, 3)) (hl : Cond.classLink own idx r.1 ∈ lw_all) (hr : xm_cl[tag]? = some r) : xm_CallOK Iv own cc fr pc (pc + 3) 1 0 0 (S_cst tag) := by
  intro p l e R s m args below meth c Qf D dA b A nL C0 hR1 hR2 as rest w K KX H locs cells slots ls hn h8 hS hJ hsz hc hs kk kx
  obtain ⟨hx, hb, hml, hown, hts, hK, hN, hIv, hA, hst, hlk⟩ := id C0
  obtain ⟨a, n, rfl, ha, hk⟩ := hS
  have htag : xm_bt tag = tag := xm_bt_lt (by
    have := (List.getElem?_eq_some_iff.mp hr).1
    simp [xm_cl] at this
    omega)
  obtain ⟨cell, q1, q2, q3⟩ := xm_recv hK hJ.1 ha htag hr
  intro T hT X
  obtain ⟨vm', X', st⟩ := X.checkcastYes hx hown (hts _ hl) (by rw [hT]; exact q1) q2 q3 (va_asg _ _) (g := F0 m pc ls (xm_cs b ([Value.ref a].reverse ++ rest))) rfl rfl (by rw [hb]; exact hdg)
  obtain ⟨t, a1, b1⟩ := kk (some (.ref a)) w H locs hk hJ (T.setVm vm') hT X'
  exact ⟨t, st t a1, b1⟩
/-- a constant pushed -/
def S_psh (v : Value) : xS := fun as w K _ => as = [] ∧ K (some v) w
theorem xc_cmp (hdg : decode cc pc = .ok (.getstatic idx, 3)) (hl : Cond.fieldLink own idx "java/lang/String" "COMPACT_STRINGS" "Z" ∈ lw_all) : xm_CallOK cI own cc fr pc (pc + 3) 0 0 0 (S_psh (.int 1)) := by
  intro p l e R s m args below meth c Qf D dA b A nL C0 hR1 hR2 as rest w K KX H locs cells slots ls hn h8 hS hJ hsz hc hs kk kx
  obtain ⟨hx, hb, hml, hown, hts, hK, hN, hIv, hA, hst, hlk⟩ := id C0
  obtain ⟨rfl, hk⟩ := hS
  exact va_gets hx hb hIv.2.2.1 hJ.2.2 hown (hts _ hl) (fun _ h => h) hdg (kk (some (.int 1)) w H locs hk hJ)
end
/-! need, needThere -/
theorem at_0 : (∀ w ∈ vx_at0 RX1 122 (xm_xn 0) xm_ce, w ∈ lw_tbl ∧ (goodWord w = true ∨ xm_isC w = true)) ∧ (∀ w ∈ Cond.classLink RX1 120 (xm_xn 0) :: Cond.initialized (xm_xn 0) :: vx_at0 RX1 122 (xm_xn 0) xm_ce, vx_ot w = true) := by decide +kernel
theorem at_1 : (∀ w ∈ vx_at0 RX1 125 (xm_xn 1) xm_ce, w ∈ lw_tbl ∧ (goodWord w = true ∨ xm_isC w = true)) ∧ (∀ w ∈ Cond.classLink RX1 123 (xm_xn 1) :: Cond.initialized (xm_xn 1) :: vx_at0 RX1 125 (xm_xn 1) xm_ce, vx_ot w = true) := by decide +kernel

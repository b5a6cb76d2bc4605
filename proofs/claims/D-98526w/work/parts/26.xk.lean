/-! ===== calls over the x machine ===== -/
set_option maxRecDepth 100000
def xm_this (tag : Nat) (S : xS) : xS := fun as w Q QX => match as with
  | .ref a :: _ => (∃ n, w.1 a = some (tag, n)) ∧ S as w Q QX
  | _ => False
section XK
variable {p : Program} {l : Launch} {e : Env} {R : Room} {s : State} {m : MethodId} {args : Array Value} {below : List Frame} {meth : Method} {c : Code} {Qf : State → Prop} {D : va_G} {dA : Nat → ClassId} {b : Nat → Nat} {A : Nat → Prop}
/-- what a call of any kind gives -/
def xm_CR (p : Program) (l : Launch) (e : Env) (R : Room) (s : State) (m : MethodId) (args : Array Value) (below : List Frame) (meth : Method) (c : Code) (H : Heap) (locs : List Loc) (cells slots mc ms : Nat) (g : JFrame) (rest : List Value) (as : Array Value) (Qc : Array Value → State → Outcome → State → Prop) (XC : String → Addr → State → State → Prop) (free : Addr → Prop) : Prop :=
  ∀ T : State, T.heap = H → Stand p l e R s m args below meth c T locs cells slots →
    (∃ (v : Option Value) (vm₁ : Vm) (B : Pt), s.WarmedH vm₁ ∧ Stand p l e R s m args below meth c B.U B.locs B.cells B.slots ∧ PostOf Qc mc ms free ⟨T.setVm vm₁, locs, cells, slots⟩ as v B ∧
      ∀ target, Steps p.tables e below (B.U.setTop { g with pc := g.pc + 3, stack := v.toList ++ rest }) target → Steps p.tables e below (T.setTop g) target) ∨
    (∃ (q : Addr) (vm₁ : Vm) (B : Pt), s.WarmedH vm₁ ∧ Stand p l e R s m args below meth c B.U B.locs B.cells B.slots ∧ vz_Post XC mc ms free ⟨T.setVm vm₁, locs, cells, slots⟩ as q B ∧
      Steps p.tables e below (T.setTop g) ((B.U.setTop { g with stack := rest }).pushFrame (.throwing q)))
theorem xm_core {H : Heap} {locs : List Loc} {cells slots mc ms pc : Nat} {ls : Array Slot} {st0 : List Value} {rest : List Value} {as : Array Value} {K : Option Value → xW → Prop} {KX : Nat → Nat → xW → Prop} {w : xW}
    (hJ : xm_J D dA b A s.heap w H locs)
    (hc : xm_CR p l e R s m args below meth c H locs cells slots mc ms (F0 m pc ls st0) (xm_cs b rest) as (xm_Qc D dA b A K) (xm_XQ D dA b A KX) A)
    (kk : ∀ (v : Option Value) (w' : xW) (H' : Heap) (locs' : List Loc), K v w' → xm_J D dA b A s.heap w' H' locs' → W p l e R s m args below meth c H' locs' (cells + mc) (slots + ms) Qf (F0 m (pc + 3) ls (xm_cs b (v.toList ++ rest))))
    (kx : ∀ (x q : Nat) (w' : xW) (H' : Heap) (locs' : List Loc) (ce : Cell), KX x q w' → xm_J D dA b A s.heap w' H' locs' → H'[xm_phi b q]? = some ce → ce.vm = .none → s.vm.findClass (xm_xn x) = some ce.cls → vx_W p l e R s m args below meth c H' locs' (cells + mc) (slots + ms) Qf (F0 m pc ls (xm_cs b rest)) (xm_phi b q)) :
    W p l e R s m args below meth c H locs cells slots Qf (F0 m pc ls st0) := by
  intro T hT X
  rcases hc T hT X with ⟨v, vm₁, ⟨U', l2, c2, s2⟩, hW₁, X', ⟨g', mk, t, L, e1, e2, hq, h1, hL, h2, h3⟩, st⟩ | ⟨q, vm₁, ⟨U', l2, c2, s2⟩, hW₁, X', ⟨g', mk, t, L, E, ce, e1, e2, hq, hce, hcv, hcl, h1, hL, h2, h3⟩, st⟩
  · dsimp only [Pt.U, Pt.locs, Pt.cells, Pt.slots] at X' e1 e2 h1 h2 h3 st
    subst h1; subst h2; subst h3
    obtain ⟨v', w', hv, hK, hR', hdom', hF'⟩ := hq
    cases hv
    obtain ⟨-, -, k3⟩ := vx_keep (H := H) (st₀ := (T.setVm vm₁).calling g' mk as) (A1 := A) hT e1 hJ.2.2 (fun q _ h => h) (fun q h => h) hL hF'
    obtain ⟨t2, a1, b1⟩ := kk v' w' U'.heap (locs ++ L) hK ⟨by rw [e1]; exact hR', hdom', k3⟩ U' rfl X'
    refine ⟨t2, st t2 ?_, b1⟩
    have hst : (v'.map (xm_cv b)).toList ++ xm_cs b rest = xm_cs b (v'.toList ++ rest) := by cases v' <;> rfl
    rw [hst]
    exact a1
  · dsimp only [Pt.U, Pt.locs, Pt.cells, Pt.slots] at X' e1 e2 h1 h2 h3 st hcl
    subst h1; subst h2; subst h3
    obtain ⟨x, a, w', rfl, rfl, hK, hR', hdom', hF'⟩ := hq
    obtain ⟨-, -, k3⟩ := vx_keep (H := H) (st₀ := (T.setVm vm₁).calling g' mk as) (A1 := A) hT e1 hJ.2.2 (fun q _ h => h) (fun q h => h) hL hF'
    obtain ⟨t2, a1, b1⟩ := kx x a w' U'.heap (locs ++ L) ce hK ⟨by rw [e1]; exact hR', hdom', k3⟩ (by rw [e1]; exact hce) hcv (vx_cls hW₁ hcl) U' rfl X'
    exact ⟨t2, st.trans a1, b1⟩
/-- a callee's contract, paid for -/
theorem xm_paid {Iv : xI} {own : String} {cc : ByteArray} {nL fr fr' mc ms : Nat} {S : xS} {y : MethodName} {ws : List Cond} {bytes : ByteArray} {maxL : Nat} {ret : Option FieldType} (hI : xm_good Iv) (C0 : xm_Cx p l s m args meth c D dA A nL Iv own cc) (hCt : xm_Ct Iv y ws fr' mc ms S)
    (hws : ws = ws_ y bytes maxL ret) (hcw : Cond.code y bytes maxL ret ∈ lw_all) (hini : Cond.initialized y.cls ∈ lw_all) (hfr : fr' < fr) (hmL : maxL ≤ 43) (hR1 : fr ≤ R.frames) (hR2 : 64 * fr ≤ R.locals)
    {as : List Value} {w : xW} {K : Option Value → xW → Prop} {KX : Nat → Nat → xW → Prop} {H : Heap} {locs : List Loc} (hS : S as w K KX) (hJ : xm_J D dA b A s.heap w H locs) :
    vz_Back l R p e below s args y 3 10 (PreOf R mc ms (xm_Pc Iv D dA b A as w H.size)) (PostOf (xm_Qc D dA b A K) mc ms A) (vz_Post (xm_XQ D dA b A KX) mc ms A) ∧
    ∀ U : State, U.heap = H → s.WarmedH U.vm → xm_Pc Iv D dA b A as w H.size (xm_cs b as).toArray U := by
  obtain ⟨hx, hb, hml, hown, hts, hK, hN, hIv, hA, hst, hlk⟩ := C0
  subst hws
  refine ⟨vz_back (bytes := bytes) (maxL := maxL) (ret := ret) (hCt l hst D dA b A as w K KX H.size hS (fun q hq => hA q (Nat.le_trans hJ.2.2.1 hq)) hJ.2.1) (xm_blind hI) rfl rfl (by show fr' + 1 ≤ R.frames; omega) (by show 10 + (maxL + 11) + 64 * fr' ≤ R.locals; omega) (pay_in hts (lw_meth hcw)) List.mem_cons_self
    (fun a' U hW => word_at hW (Or.inl (by first | rfl | simp [Cond.onTables, Cond.keeps, Cond.steady])) (hts _ hini)), fun U hU hW => ?_⟩
  exact ⟨rfl, by rw [hU], by rw [hU]; exact hJ.1, hK.moved hW.alike, hN.warm hW, hI.1 A s U _ hW (hI.2.2.1 A s s.heap _ hIv (by rw [hU]; exact hJ.2.2.2.1))⟩
end XK
/-- the receiver's cell -/
theorem xm_recv {s : State} {D : va_G} {dA : Nat → ClassId} {b : Nat → Nat} {w : xW} {H : Heap} {a t0 t n : Nat} {r : vw_C} (hK : xm_K D dA s) (hR : xm_R D dA b w H) (hl : w.1 a = some (t0, n)) (ht0 : xm_bt t0 = t) (hr : xm_cl[t]? = some r) : ∃ cell : Cell, H[xm_phi b a]? = some cell ∧ cell.vm.isStatics = false ∧ s.vm.findClass r.1 = some cell.cls := by
  rcases hR.1 a t0 n hl with ⟨ht, r', h4, h5, cell, g1, g2, g3, -⟩ | ⟨h4, -⟩
  · subst ht0
    cases hr.symm.trans h4
    exact ⟨cell, g1, by rw [g3]; rfl, by rw [g2]; exact (hK.1 _ r hr).2.1⟩
  · subst ht0
    have := (List.getElem?_eq_some_iff.mp hr).1
    simp [xm_cl] at this
    omega
theorem xm_cs_app (b : Nat → Nat) (x y : List Value) : xm_cs b (x ++ y) = xm_cs b x ++ xm_cs b y := by simp [xm_cs]
theorem xm_cs_rev (b : Nat → Nat) (x : List Value) : xm_cs b x.reverse = (xm_cs b x).reverse := by simp [xm_cs]
theorem xm_room {pc : Nat} {m : MethodId} {ls : Array Slot} {b : Nat → Nat} {st0 rest : List Value} (h : xm_ct rest ≤ 10) : 2 * (F0 m pc ls st0).monitorRoom + ((xm_cs b rest).map fun v => v.category).sum ≤ 10 := by
  rw [xm_cs_cat, ← xm_ct_eq]
  show 2 * 0 + _ ≤ 10
  omega
/-- a link, ordinary or of a nest mate -/
def xm_ml (own : String) (idx : Nat) (y : MethodName) : Prop := (Cond.methodLink own idx y ∈ lw_all) ∨ ∃ host, Cond.methodLinkNest own idx y host ∈ lw_tbl
section XKC
variable {Iv : xI} {own : String} {cc : ByteArray} {fr fr' mc ms pc idx n maxL : Nat} {S : xS} {y : MethodName} {ws : List Cond} {bytes : ByteArray} {ret : Option FieldType}
theorem xm_callV (tag : Nat) {r : vw_C} (hI : xm_good Iv) (hCt : xm_Ct Iv y (ws_ y bytes maxL ret) fr' mc ms S) (hdg : decode cc pc = .ok (.invokevirtual idx, 3)) (hl : xm_ml own idx y) (hin : Cond.instanceMethod y ∈ lw_all) (hse : Cond.selects y.cls y y ∈ lw_all) (hini : Cond.initialized y.cls ∈ lw_all) (hcw : Cond.code y bytes maxL ret ∈ lw_all)
    (hr : xm_cl[tag]? = some r) (hC : r.1 = y.cls) (hd : (y.cls ≠ "java/lang/invoke/MethodHandle" ∧ y.cls ≠ "java/lang/invoke/VarHandle") ∧ (parseMethodDescriptor y.desc).map (fun d => d.parameters.length) = some n) (hfr : fr' < fr) (hmL : maxL ≤ 43) : xm_CallOK Iv own cc fr pc (pc + 3) (n + 1) mc ms (xm_this tag S) := by
  intro p l e R s m args below meth c Qf D dA b A nL C0 hR1 hR2 as rest w K KX H locs cells slots ls hn h8 hS hJ hsz hc hs kk kx
  obtain ⟨hx, hb, hml, hown, hts, hK, hN, hIv, hA, hst, hlk⟩ := id C0
  match as, hS, hn with
  | .ref a :: as', ⟨⟨n', hl'⟩, hS⟩, hn =>
  obtain ⟨hB, hP⟩ := xm_paid (p := p) (e := e) (R := R) (below := below) hI C0 hCt rfl hcw hini hfr hmL hR1 hR2 hS hJ
  have htag : xm_bt tag = tag := xm_bt_lt (by
    have := (List.getElem?_eq_some_iff.mp hr).1
    simp [xm_cl] at this
    omega)
  obtain ⟨cellB, q1, q2, q3⟩ := xm_recv hK hJ.1 hl' htag hr
  rw [hC] at q3
  have hlen : ∀ sig, parseMethodDescriptor y.desc = some sig → (xm_cs b as').length = sig.parameters.length := fun sig h => by
    have h2 := hd.2
    rw [h] at h2
    have h3 : sig.parameters.length = n := Option.some.inj h2
    simp [xm_cs] at hn ⊢
    omega
  have hstk : xm_cs b ((.ref a :: as').reverse ++ rest) = (xm_cs b as').reverse ++ .ref (xm_phi b a) :: xm_cs b rest := by simp [xm_cs, xm_cv]
  refine xm_core (as := (xm_cs b (.ref a :: as')).toArray) hJ (fun T hT X => ?_) kk kx
  rcases hl with hl | ⟨host, hl⟩
  · exact vz_callV X hx (C := y.cls) (bytes := bytes) (maxL := maxL) (ret := ret) hown (hts _ hl) (hts _ hin) (hts _ hse) (hts _ hcw) hd.1 hB (by rw [hT]; exact q1) q2 q3 rfl (hsz.trans hml.symm) (argsL := xm_cs b as') (rest := xm_cs b rest) hlen hstk (xm_room h8) (by rw [hb]; exact hdg) (fun vm₁ hW₁ => ⟨hc, hs, hP (T.setVm vm₁) hT hW₁⟩)
  · exact vz_callVN X hx (C := y.cls) (bytes := bytes) (maxL := maxL) (ret := ret) hown (va_Nw.use rfl (hN _ hl rfl)) (hts _ hin) (hts _ hse) (hts _ hcw) hd.1 hB (by rw [hT]; exact q1) q2 q3 rfl (hsz.trans hml.symm) (argsL := xm_cs b as') (rest := xm_cs b rest) hlen hstk (xm_room h8) (by rw [hb]; exact hdg) (fun vm₁ hW₁ => ⟨hc, hs, hP (T.setVm vm₁) hT hW₁⟩)
theorem xm_callS (hI : xm_good Iv) (hCt : xm_Ct Iv y (ws_ y bytes maxL ret) fr' mc ms S) (hdg : decode cc pc = .ok (.invokestatic idx, 3)) (hl : xm_ml own idx y) (hin : Cond.static y ∈ lw_all) (hini : Cond.initialized y.cls ∈ lw_all) (hcw : Cond.code y bytes maxL ret ∈ lw_all)
    (hd : (y.cls ≠ "java/lang/invoke/MethodHandle" ∧ y.cls ≠ "java/lang/invoke/VarHandle") ∧ (parseMethodDescriptor y.desc).map (fun d => d.parameters.length) = some n) (hfr : fr' < fr) (hmL : maxL ≤ 43) : xm_CallOK Iv own cc fr pc (pc + 3) n mc ms S := by
  intro p l e R s m args below meth c Qf D dA b A nL C0 hR1 hR2 as rest w K KX H locs cells slots ls hn h8 hS hJ hsz hc hs kk kx
  obtain ⟨hx, hb, hml, hown, hts, hK, hN, hIv, hA, hst, hlk⟩ := id C0
  obtain ⟨hB, hP⟩ := xm_paid (p := p) (e := e) (R := R) (below := below) hI C0 hCt rfl hcw hini hfr hmL hR1 hR2 hS hJ
  have hlen : ∀ sig, parseMethodDescriptor y.desc = some sig → (xm_cs b as).length = sig.parameters.length := fun sig h => by
    have h2 := hd.2
    rw [h] at h2
    have h3 : sig.parameters.length = n := Option.some.inj h2
    simp [xm_cs] at hn ⊢
    omega
  have hstk : xm_cs b (as.reverse ++ rest) = (xm_cs b as).reverse ++ xm_cs b rest := by simp [xm_cs]
  refine xm_core (as := (xm_cs b as).toArray) hJ (fun T hT X => ?_) kk kx
  rcases hl with hl | ⟨host, hl⟩
  · exact vz_callS X hx (bytes := bytes) (maxL := maxL) (ret := ret) hown (hts _ hl) (hts _ hin) (hts _ hini) (hts _ hcw) hd.1 hB rfl (hsz.trans hml.symm) (argsL := xm_cs b as) (rest := xm_cs b rest) hlen hstk (xm_room h8) (by rw [hb]; exact hdg) (fun vm₁ hW₁ => ⟨hc, hs, hP (T.setVm vm₁) hT hW₁⟩)
  · exact vz_callSN X hx (bytes := bytes) (maxL := maxL) (ret := ret) hown (va_Nw.use rfl (hN _ hl rfl)) (hts _ hin) (hts _ hini) (hts _ hcw) hd.1 hB rfl (hsz.trans hml.symm) (argsL := xm_cs b as) (rest := xm_cs b rest) hlen hstk (xm_room h8) (by rw [hb]; exact hdg) (fun vm₁ hW₁ => ⟨hc, hs, hP (T.setVm vm₁) hT hW₁⟩)
theorem xm_callI (hI : xm_good Iv) (hCt : xm_Ct Iv y (ws_ y bytes maxL none) fr' mc ms S) (hdg : decode cc pc = .ok (.invokespecial idx, 3)) (hl : xm_ml own idx y) (hin : Cond.instanceMethod y ∈ lw_all) (hini : Cond.initialized y.cls ∈ lw_all) (hcw : Cond.code y bytes maxL none ∈ lw_all) (hy1 : y.name = "<init>") (hrec : ∀ as w K KX, S as w K KX → ∃ a as', as = .ref a :: as')
    (hd : (y.cls ≠ "java/lang/invoke/MethodHandle" ∧ y.cls ≠ "java/lang/invoke/VarHandle") ∧ (parseMethodDescriptor y.desc).map (fun d => d.parameters.length) = some n) (hfr : fr' < fr) (hmL : maxL ≤ 43) : xm_CallOK Iv own cc fr pc (pc + 3) (n + 1) mc ms S := by
  intro p l e R s m args below meth c Qf D dA b A nL C0 hR1 hR2 as rest w K KX H locs cells slots ls hn h8 hS hJ hsz hc hs kk kx
  obtain ⟨hx, hb, hml, hown, hts, hK, hN, hIv, hA, hst, hlk⟩ := id C0
  obtain ⟨a, as', rfl⟩ := hrec _ _ _ _ hS
  obtain ⟨hB, hP⟩ := xm_paid (p := p) (e := e) (R := R) (below := below) hI C0 hCt rfl hcw hini hfr hmL hR1 hR2 hS hJ
  have hlen : ∀ sig, parseMethodDescriptor y.desc = some sig → (xm_cs b as').length = sig.parameters.length := fun sig h => by
    have h2 := hd.2
    rw [h] at h2
    have h3 : sig.parameters.length = n := Option.some.inj h2
    simp [xm_cs] at hn ⊢
    omega
  have hstk : xm_cs b ((.ref a :: as').reverse ++ rest) = (xm_cs b as').reverse ++ .ref (xm_phi b a) :: xm_cs b rest := by simp [xm_cs, xm_cv]
  refine xm_core (as := (xm_cs b (.ref a :: as')).toArray) hJ (fun T hT X => ?_) kk kx
  rcases hl with hl | ⟨host, hl⟩
  · exact vz_callI X hx (bytes := bytes) (maxL := maxL) hown (hts _ hl) hy1 (hts _ hin) (hts _ hcw) hd.1 hB rfl (hsz.trans hml.symm) (a := xm_phi b a) (argsL := xm_cs b as') (rest := xm_cs b rest) hlen hstk (xm_room h8) (by rw [hb]; exact hdg) (fun vm₁ hW₁ => ⟨hc, hs, hP (T.setVm vm₁) hT hW₁⟩)
  · exact vz_callIN X hx (bytes := bytes) (maxL := maxL) hown (va_Nw.use rfl (hN _ hl rfl)) hy1 (hts _ hin) (hts _ hcw) hd.1 hB rfl (hsz.trans hml.symm) (a := xm_phi b a) (argsL := xm_cs b as') (rest := xm_cs b rest) hlen hstk (xm_room h8) (by rw [hb]; exact hdg) (fun vm₁ hW₁ => ⟨hc, hs, hP (T.setVm vm₁) hT hW₁⟩)
end XKC
/-! the table of a block, row by row -/
section XO
variable {Iv : xI} {own : String} {cc : ByteArray} {init : Bool} {fr : Nat} {calls : List (Nat × Nat × Nat × xS)} {i : Instr} {len nx c k d pc : Nat} {t : List xE}
theorem xo_n : xm_okb Iv own cc init fr calls [] pc := trivial
/-- an ordinary row -/
theorem xo_0 (hd : decode cc pc = .ok (i, len)) (h1 : xm_ln i = len) (h2 : xm_oki own init pc i c k 0) (ht : xm_okb Iv own cc init fr calls t (pc + len)) : xm_okb Iv own cc init fr calls ((i, pc + len, c, k, 0) :: t) pc := by
  subst h1
  exact ⟨⟨⟨_, hd, fun _ => ⟨rfl, rfl⟩⟩, h2⟩, ht⟩
theorem xo_1 (hd : decode cc pc = .ok (i, len)) (h1 : xm_ln i = len) (h2 : xm_oki own init pc i c k 1) (ht : xm_okb Iv own cc init fr calls t (pc + len)) : xm_okb Iv own cc init fr calls ((i, pc + len, c, k, 1) :: t) pc := by
  subst h1
  exact ⟨⟨⟨_, hd, fun _ => ⟨rfl, rfl⟩⟩, h2⟩, ht⟩
theorem xo_2 (hd : decode cc pc = .ok (i, len)) (h1 : xm_ln i = len) (h2 : xm_oki own init pc i c k 2) (ht : xm_okb Iv own cc init fr calls t (pc + len)) : xm_okb Iv own cc init fr calls ((i, pc + len, c, k, 2) :: t) pc := by
  subst h1
  exact ⟨⟨⟨_, hd, fun _ => ⟨rfl, rfl⟩⟩, h2⟩, ht⟩
theorem xo_4 (hd : decode cc pc = .ok (i, len)) (h1 : xm_ln i = len) (h2 : xm_oki own init pc i c k 4) (ht : xm_okb Iv own cc init fr calls t (pc + len)) : xm_okb Iv own cc init fr calls ((i, pc + len, c, k, 4) :: t) pc := by
  subst h1
  exact ⟨⟨⟨_, hd, fun _ => ⟨rfl, rfl⟩⟩, h2⟩, ht⟩
/-- a switch -/
theorem xo_s (hd : decode cc pc = .ok (i, len)) (h1 : xm_isw i = true) (h2 : xm_oki own init pc i c k 0) (ht : xm_okb Iv own cc init fr calls t (pc + len)) : xm_okb Iv own cc init fr calls ((i, pc + len, c, k, 0) :: t) pc :=
  ⟨⟨⟨_, hd, fun h => by rw [h1] at h; cases h⟩, h2⟩, ht⟩
/-- a call -/
theorem xo_c {n mc ms : Nat} {S : xS} (hk : calls[k]? = some (n, mc, ms, S)) (hc : xm_CallOK Iv own cc fr pc (pc + len) n mc ms S) (ht : xm_okb Iv own cc init fr calls t (pc + len)) : xm_okb Iv own cc init fr calls ((i, pc + len, c, k, 9) :: t) pc :=
  ⟨fun n' mc' ms' S' h => by
    cases hk.symm.trans h
    exact hc, ht⟩
theorem xo_bipush {n : Int} (h : (Int8.ofInt n).toInt32 = Int32.ofInt n) : xm_oki own init pc (.bipush n) c k d := h
theorem xo_sipush {n : Int} (h : (Int16.ofInt n).toInt32 = Int32.ofInt n) : xm_oki own init pc (.sipush n) c k d := h
theorem xo_tableswitch {df lo hi : Int} {offs : Array Int} (h : (∀ o ∈ df :: offs.toList, 0 ≤ (pc : Int) + o) ∧ (offs.size : Int) = hi - lo + 1) : xm_oki own init pc (.tableswitch df lo hi offs) c k d := h
theorem xo_lookupswitch {df : Int} {ps : Array (Int × Int)} (h : (∀ o ∈ df :: ps.toList.map (fun q => q.2), 0 ≤ (pc : Int) + o) ∧ (∀ q ∈ ps.toList, -2 ^ 31 ≤ q.1 ∧ q.1 < 2 ^ 31) ∧ (ps.toList.zip (ps.toList.drop 1)).all (fun (a, next) => a.1 < next.1) = true) : xm_oki own init pc (.lookupswitch df ps) c k d := h
end XO
theorem xm_fg_of {own : String} {idx c k d : Nat} {ref name desc : String} {r : vw_C} (hlk : xm_lk own idx ref name desc) (hc : c < 30) (hr : xm_cl[c]? = some r) (hk : k < r.2.2) (h1 : (r.2.1 k).2.1 = name) (h2 : (r.2.1 k).2.2.1 = desc) (h3 : ref = (r.2.1 k).1 ∨ Cond.sameField ref (r.2.1 k).1 name desc ∈ lw_all) (h4 : xm_fk (xm_ty c k) = d) : xm_fg own idx c k d := by
  refine ⟨ref, name, desc, hlk, fun t ht => ?_⟩
  have : xm_bt t = c := by
    unfold xm_sub at ht
    split at ht
    · simp at ht
      rcases ht with rfl | rfl <;> rfl
    · omega
    · omega
    · omega
    · have e : t = c := by simpa using ht
      subst e
      exact xm_bt_lt (by omega)
  subst this
  exact ⟨r, hr, hk, h1, h2, h3, h4⟩
theorem xm_fp_of {own : String} {init : Bool} {idx c k d : Nat} (h : xm_fg own idx c k (xm_d4 d)) (hc : c < 30) {r : vw_C} (hr : xm_cl[c]? = some r) (h1 : xm_pfok c k d) (h2 : (r.2.1 k).2.2.2 = false) : xm_fp own init idx c k d := by
  refine ⟨h, fun t ht h200 r' hr' => ?_⟩
  have : t = c := by
    unfold xm_sub at ht
    split at ht
    · simp at ht
      omega
    · omega
    · omega
    · omega
    · simpa using ht
  subst this
  cases hr.symm.trans hr'
  exact ⟨h1, Or.inl h2⟩
theorem xm_fp_ofF {own : String} {idx c k d : Nat} (h : xm_fg own idx c k (xm_d4 d)) (hc : c < 30) {r : vw_C} (hr : xm_cl[c]? = some r) (h1 : xm_pfok c k d) (h2 : (r.2.1 k).2.2.2 = true) (h3 : (r.2.1 k).1 = own) (h4 : Cond.fieldLink own idx own (r.2.1 k).2.1 (r.2.1 k).2.2.1 ∈ lw_all) : xm_fp own true idx c k d := by
  refine ⟨h, fun t ht h200 r' hr' => ?_⟩
  have : t = c := by
    unfold xm_sub at ht
    split at ht
    · simp at ht
      omega
    · omega
    · omega
    · omega
    · simpa using ht
  subst this
  cases hr.symm.trans hr'
  exact ⟨h1, Or.inr ⟨h2, rfl, h3, own, h4, h3.symm⟩⟩

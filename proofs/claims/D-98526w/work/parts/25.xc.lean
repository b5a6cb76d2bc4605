/-! ===== contracts over the x machine ===== -/
set_option maxRecDepth 100000
def xm_Pc (Iv : xI) (D : va_G) (dA : Nat → ClassId) (b : Nat → Nat) (A : Nat → Prop) (avs : List Value) (w : xW) (sz : Nat) : Array Value → State → Prop :=
  va_Pc (xm_cs b avs) (fun U => U.heap.size = sz ∧ xm_R D dA b w U.heap ∧ xm_K D dA U ∧ xm_N U ∧ Iv A U U.heap)
def xm_Qc (D : va_G) (dA : Nat → ClassId) (b : Nat → Nat) (A : Nat → Prop) (Q : Option Value → xW → Prop) : Array Value → State → Outcome → State → Prop := fun _ st o t =>
  ∃ (v : Option Value) (w' : xW), o = .returned (v.map (xm_cv b)) ∧ Q v w' ∧ xm_R D dA b w' t.heap ∧ xm_dom b A w' ∧ va_F A st t
def xm_XQ (D : va_G) (dA : Nat → ClassId) (b : Nat → Nat) (A : Nat → Prop) (QX : Nat → Nat → xW → Prop) : String → Addr → State → State → Prop := fun E q st t =>
  ∃ (x a : Nat) (w' : xW), E = xm_xn x ∧ q = xm_phi b a ∧ QX x a w' ∧ xm_R D dA b w' t.heap ∧ xm_dom b A w' ∧ va_F A st t
def xm_rm (fr mc ms : Nat) : Room := { frames := fr, cells := mc, slots := ms, locals := 64 * fr }
/-- a method's contract -/
def xm_Ct (Iv : xI) (y : MethodName) (ws : List Cond) (fr mc ms : Nat) (S : xS) : Prop :=
  ∀ (l : Launch), l.stackTraces = false → ∀ (D : va_G) (dA : Nat → ClassId) (b : Nat → Nat) (A : Nat → Prop) (avs : List Value) (w : xW) (Q : Option Value → xW → Prop) (QX : Nat → Nat → xW → Prop) (sz : Nat),
    S avs w Q QX → (∀ q : Nat, sz ≤ q → A q) → xm_dom b A w →
    vz_Met l y ws (xm_rm fr mc ms) (xm_Pc Iv D dA b A avs w sz) (xm_Qc D dA b A Q) (xm_XQ D dA b A QX) mc ms A
theorem xm_blind {Iv : xI} (hI : xm_good Iv) {D : va_G} {dA : Nat → ClassId} {b : Nat → Nat} {A : Nat → Prop} {avs : List Value} {w : xW} {sz : Nat} : FrameBlind (xm_Pc Iv D dA b A avs w sz) := by
  intro a U g mk h
  obtain ⟨h1, h2, h3, h4, h5, h6⟩ := h
  exact ⟨h1, h2, h3, h4.moved (u := U) (U := U.calling g mk a) (Vm.Alike.refl U.vm), xm_N.same (s := U) (U := U.calling g mk a) rfl h5, hI.2.1 A U (U.calling g mk a) _ rfl h6⟩
/-! ends -/
def vz_MQ (below : List Frame) (Qc : Array Value → State → Outcome → State → Prop) (XC : String → Addr → State → State → Prop) (a : Array Value) (s : State) (mc ms : Nat) (free : Addr → Prop) : State → Prop := fun t =>
  ∃ o, t.status = .running ∧ Ended t below o ∧ vz_Q Qc XC mc ms free a s o t
section XCE
variable {p : Program} {l : Launch} {e : Env} {R : Room} {s : State} {m : MethodId} {args : Array Value} {below : List Frame} {meth : Method} {c : Code} {H : Heap} {locs : List Loc} {cells slots : Nat}
variable {mc ms : Nat} {free : Addr → Prop} {Qc : Array Value → State → Outcome → State → Prop} {XC : String → Addr → State → State → Prop} {ls : Array Slot} {rest : List Value}
theorem vz_ret {g : JFrame} (k : W p l e R s m args below meth c H locs cells slots (MQ below Qc args s mc ms free) g) : W p l e R s m args below meth c H locs cells slots (vz_MQ below Qc XC args s mc ms free) g := by
  intro T hT X
  obtain ⟨t, a1, o, b1, b2, b3, b4⟩ := k T hT X
  exact ⟨t, a1, o, b1, b2, Or.inl ⟨b3, b4⟩⟩
theorem vz_out {pc : Nat} {E : String} {ce : Cell} {q : Addr} (hout : ∀ x ∈ c.exceptionTable.toList, covers x pc = false) (hlocks : meth.locks = false) (hcell : H[q]? = some ce) (hv : ce.vm = .none) (hcl : s.vm.findClass E = some ce.cls)
    (hx : ∀ t : State, t.heap = H → s.vm.Alike t.vm → XC E q s t) (hf : ∀ z ∈ locs, free z.base) (hc : cells ≤ mc) (hs : slots ≤ ms) :
    vx_W p l e R s m args below meth c H locs cells slots (vz_MQ below Qc XC args s mc ms free) (F0 m pc ls rest) q := by
  intro T hT X
  obtain ⟨st1, hrun, hend, hW, hsm⟩ := X.leaveThrown q (g := F0 m pc ls rest) rfl rfl rfl hout hlocks
  have hcell9 : (T.setFrames (.throwing q :: below)).heap[q]? = some ce := by
    show T.heap[q]? = some ce
    rw [hT]; exact hcell
  exact ⟨_, st1, .threw q, hrun, hend, Or.inr ⟨q, rfl, E, ce, locs, hx _ hT hW.alike, hcell9, hv, hcl, hW, hsm.mono hc hs, hf⟩⟩
end XCE
section XCB
variable {l : Launch}
theorem vz_ofW {y : MethodName} {ws ws' : List Cond} {rm : Room} {Pc : Array Value → State → Prop} {Qc : Array Value → State → Outcome → State → Prop} {XC : String → Addr → State → State → Prop} {mc ms : Nat} {free : Addr → Prop} {cc : ByteArray} {maxL : Nat} {ret : Option FieldType}
    (hy : plainName y.cls = true) (hw : ws = Cond.code y cc maxL ret :: ws')
    (body : ∀ p e s m args below meth c s₁, BodyLoose p l y (headSpec ws rm) cc maxL ret e s m args below meth c s₁ → c.maxLocals = maxL → (∀ x ∈ c.exceptionTable.toList, False) → Pc args s →
      W p l e (headSpec ws rm).room s m args below meth c s.heap [] 0 0 (vz_MQ below Qc XC args s mc ms free) (entryFrame m args maxL)) : vz_Met l y ws rm Pc Qc XC mc ms free := by
  refine MetFree.of_bodyS (code := cc) (maxLocals := maxL) (ret := ret) hy ?_ ?_
  · intro args s m h hn
    obtain ⟨meth, c, h1, h2, h3, h4, h5, h6, -, -⟩ := Cond.code_spec hn (atoms_spec (ws := ws) h _ (by rw [hw]; exact List.mem_cons_self))
    exact ⟨meth, c, h1, h2, h3, h4, h5, h6⟩
  · intro p e s m args below meth c s₁ B hml hP _
    have hh0 : s₁.heap = s.heap := by rw [B.state]; rfl
    have ht : ∀ x ∈ c.exceptionTable.toList, False := by
      obtain ⟨meth9, c9, h1, h2, -, -, -, -, h7, -⟩ := Cond.code_spec B.named (atoms_spec (ws := ws) B.pre _ (by rw [hw]; exact List.mem_cons_self))
      cases Option.some.inj (h1.symm.trans B.method)
      cases Option.some.inj (h2.symm.trans (Stand.of_body B).code)
      intro x hx
      rw [Array.isEmpty_iff.mp h7] at hx
      cases hx
    obtain ⟨t, a1, o, b1, b2, b3⟩ := body p e s m args below meth c s₁ B hml ht hP s₁ hh0 (Stand.of_body B)
    exact ⟨t, o, a1, b1, b2, b3⟩
theorem vz_ofWH {y : MethodName} {ws ws' : List Cond} {rm : Room} {Pc : Array Value → State → Prop} {Qc : Array Value → State → Outcome → State → Prop} {XC : String → Addr → State → State → Prop} {mc ms : Nat} {free : Addr → Prop} {cc : ByteArray} {maxL : Nat} {ret : Option FieldType} {hh : List (Nat × Nat × Nat × Nat)}
    (hy : plainName y.cls = true) (hw : ws = Cond.codeWith y cc maxL ret hh :: ws')
    (body : ∀ p e s m args below meth c s₁, BodyLoose p l y (headSpec ws rm) cc maxL ret e s m args below meth c s₁ → c.maxLocals = maxL → Pc args s →
      W p l e (headSpec ws rm).room s m args below meth c s.heap [] 0 0 (vz_MQ below Qc XC args s mc ms free) (entryFrame m args maxL)) : vz_Met l y ws rm Pc Qc XC mc ms free := by
  refine MetFree.of_bodyS (code := cc) (maxLocals := maxL) (ret := ret) hy ?_ ?_
  · intro args s m h hn
    obtain ⟨m9, meth, c, hn9, h1, h2, h3, h4, -, h5, h6, -⟩ := Cond.codeWith_spec (atoms_spec (ws := ws) h _ (by rw [hw]; exact List.mem_cons_self))
    cases hn.symm.trans hn9
    exact ⟨meth, c, h1, h2, h3, h4, h5, h6⟩
  · intro p e s m args below meth c s₁ B hml hP _
    have hh0 : s₁.heap = s.heap := by rw [B.state]; rfl
    obtain ⟨t, a1, o, b1, b2, b3⟩ := body p e s m args below meth c s₁ B hml hP s₁ hh0 (Stand.of_body B)
    exact ⟨t, o, a1, b1, b2, b3⟩
end XCB
/-! the entry -/
def xm_lv0 : Nat → List Value → xL
  | 0, _ => []
  | n + 1, [] => none :: xm_lv0 n []
  | n + 1, v :: t => some v :: xm_lv0 n t
def xm_av : Nat → List Value → Bool
  | _, [] => true
  | 0, _ :: _ => false
  | n + 1, v :: t => match v with
    | .long _ => false
    | .double _ => false
    | _ => xm_av n t
theorem xm_lv0_len : ∀ (n : Nat) (vs : List Value), (xm_lv0 n vs).length = n
  | 0, _ => rfl
  | n + 1, [] => by simp [xm_lv0, xm_lv0_len n []]
  | n + 1, v :: t => by simp [xm_lv0, xm_lv0_len n t]
theorem xm_lv0_nil : ∀ (n i : Nat) (v : Value), xm_get (xm_lv0 n []) i ≠ some v
  | 0, i, v => by simp [xm_lv0, xm_get]
  | n + 1, 0, v => by simp [xm_lv0, xm_get]
  | n + 1, i + 1, v => by simpa [xm_lv0, xm_get] using xm_lv0_nil n i v
theorem xm_av_cat {n : Nat} {v : Value} {t : List Value} (h : xm_av (n + 1) (v :: t) = true) : v.category = 1 ∧ xm_av n t = true := by
  cases v <;> simp_all [xm_av, Value.category]
theorem xm_lv0_get (b : Nat → Nat) : ∀ (n : Nat) (vs : List Value) (k i : Nat) (v : Value), xm_av n vs = true → xm_get (xm_lv0 n vs) i = some v → (k + i, xm_cv b v) ∈ lv_args k (xm_cs b vs)
  | n, [], k, i, v, _, h => absurd h (xm_lv0_nil n i v)
  | 0, v :: t, k, i, x, h, _ => by simp [xm_av] at h
  | n + 1, v :: t, k, 0, x, h, h2 => by
    simp only [xm_lv0, xm_get, Option.some.injEq] at h2
    subst h2
    exact List.mem_cons_self
  | n + 1, v :: t, k, i + 1, x, h, h2 => by
    obtain ⟨h3, h4⟩ := xm_av_cat h
    have h5 := xm_lv0_get b n t (k + 1) i x h4 (by simpa [xm_lv0, xm_get] using h2)
    show (k + (i + 1), xm_cv b x) ∈ (k, xm_cv b v) :: lv_args (if (xm_cv b v).category = 2 then k + 2 else k + 1) (xm_cs b t)
    rw [xm_cv_cat, if_neg (by omega), show k + (i + 1) = k + 1 + i by omega]
    exact List.mem_cons_of_mem _ h5
theorem xm_av_len (b : Nat → Nat) : ∀ (n : Nat) (vs : List Value), xm_av n vs = true → (lg_sl (xm_cs b vs)).length ≤ n
  | n, [], _ => by simp [xm_cs, lg_sl]
  | 0, v :: t, h => by simp [xm_av] at h
  | n + 1, v :: t, h => by
    obtain ⟨h3, h4⟩ := xm_av_cat h
    have h5 := xm_av_len b n t h4
    have h6 : lg_sl (xm_cs b (v :: t)) = .val (xm_cv b v) :: lg_sl (xm_cs b t) := by
      show (if (xm_cv b v).category = 2 then _ else _) ++ lg_sl (xm_cs b t) = _
      rw [xm_cv_cat, if_neg (by omega)]
      rfl
    rw [h6]
    simpa using h5
/-- a body's answers: 0 int, 1 boolean, 2 none, 3 a reference, 4 long -/
def xm_rt (rt : Nat) (ret : Option FieldType) : Prop := (rt = 0 ∧ ret = some .int) ∨ (rt = 1 ∧ (ret = some .boolean ∨ ret = some .byte)) ∨ (rt = 2 ∧ ret = none) ∨ (rt = 3 ∧ ((∃ C, ret = some (.object C)) ∨ ∃ t, ret = some (.array t))) ∨ (rt = 4 ∧ ret = some .long)
/-- what a body's walk owes, in plain Lean -/
def xm_Body (maxL rt mc ms : Nat) (hs : List (Nat × Nat × Nat × Nat)) (calls : List (Nat × Nat × Nat × xS)) (blks : List (Nat × List xE)) (S : xS) : Prop :=
  ∀ (X : xX) (avs : List Value) (w : xW) (Q : Option Value → xW → Prop) (QX : Nat → Nat → xW → Prop),
    (∀ q ∈ blks, ∀ (lv : xL) (st : List Value) (w : xW) (cb sb : Nat), xm_vc (X, Q, QX, hs, calls, rt) q.2 q.1 lv st w cb sb → X q.1 lv st w cb sb) →
    S avs w Q QX → xm_av maxL avs = true ∧ X 0 (xm_lv0 maxL avs) [] w mc ms
set_option maxHeartbeats 4000000 in
theorem xm_enter {Iv : xI} {y : MethodName} {own : String} {cc : ByteArray} {maxL rt fr mc ms : Nat} {ret : Option FieldType} {init : Bool} {calls : List (Nat × Nat × Nat × xS)} {blks : List (Nat × List xE)} {S : xS}
    (hy : plainName y.cls = true) (hown : y.cls = own) (hin : init = true → y.name = "<init>") (hrt : xm_rt rt ret)
    (hok : ∀ q ∈ blks, xm_okb Iv own cc init fr calls q.2 q.1) (body : xm_Body maxL rt mc ms [] calls blks S) : xm_Ct Iv y (ws_ y cc maxL ret) fr mc ms S := by
  intro l hl D dA b A avs w Q QX sz hS hA hdom
  refine vz_ofW (cc := cc) (maxL := maxL) (ret := ret) hy rfl ?_
  intro p e s m args below meth c s₁ B hml htab hv
  obtain ⟨rfl, hsz, hR, hK, hN, hI⟩ := hv
  subst hsz
  subst hown
  have hts := atoms_spec (ws := ws_ y cc maxL ret) B.pre
  have hts : ∀ w ∈ lw_all, w.before _ s = true := fun w h => hts w (List.mem_cons_of_mem _ h)
  have hown : s.vm.findClass y.cls = some m.cls := findClass_of_methodNamed B.named
  have C0 : xm_Cx p l s m (xm_cs b avs).toArray meth c D dA A maxL Iv y.cls cc := ⟨B.exec, B.bytes, hml, hown, hts, hK, hN, hI, hA, hl, B.notSynchronized⟩
  have hJ0 : xm_J D dA b A s.heap w s.heap [] := ⟨hR, hdom, va_S.rf⟩
  have hb := B.bytes
  have hr := B.returns
  have hx := B.exec
  have hlocks := B.notSynchronized
  have hstep := fun q hq => xm_step (R := (headSpec (ws_ y cc maxL ret) (xm_rm fr mc ms)).room) (e := e) (below := below) (b := b) (mc := mc) (ms := ms) (rt := rt) (Q := Q) (QX := QX) (hs := []) (calls := calls) (init := init) (fr := fr) (Qf := vz_MQ below (xm_Qc D dA b A Q) (xm_XQ D dA b A QX) (xm_cs b avs).toArray s mc ms A) C0
    (fun h => by rw [← hin h]; exact (name_of_methodNamed B.named B.method).1) (Nat.le_refl _) (Nat.le_refl _) (Nat.le_refl _) (Nat.le_refl _) ?_ ?_ q.2 q.1 (hok q hq)
  · obtain ⟨hav, h0⟩ := body _ avs w Q QX (fun q hq lv st w cb sb h => hstep q hq lv st w cb sb h) hS
    have hl0 := lv_entry (xm_cs b avs) (n := maxL) (xm_av_len b maxL avs hav)
    rw [lg_entry_eq]
    refine h0 s.heap [] 0 0 _ hJ0 ⟨xm_lv0_len maxL avs, _, hl0, fun i v hv => ?_⟩ (by omega) (by omega)
    have := xm_lv0_get b maxL avs 0 i v hav hv
    rwa [Nat.zero_add] at this
  · intro i v pc w' H locs cells slots ls hdg hk hQ hJ hc hs
    have hend : ∀ t : State, t.heap = H → s.WarmedH t.vm → xm_Qc D dA b A Q (xm_cs b avs).toArray s (.returned (v.map (xm_cv b))) t := fun t ht hW => ⟨v, w', rfl, hQ, by rw [ht]; exact hJ.1, hJ.2.1, hJ.2.2.F ht⟩
    refine vz_ret (W.widen hc hs ?_)
    rcases hk with ⟨rfl, x, rfl, hk⟩ | ⟨rfl, hk, x, rfl⟩ | ⟨rfl, hk, hk2⟩ | ⟨rfl, hk, rfl⟩
    · rcases hrt with ⟨h1, h2⟩ | ⟨h1, h2⟩ | ⟨h1, h2⟩ | ⟨h1, h2⟩ | ⟨h1, h2⟩
      · exact W.zret (v := x) hx hb (hr.trans h2) rfl hend hJ.2.2.2.2 hdg
      · rcases h2 with h2 | h2
        · have hx01 : narrow .boolean (.int x) = .int x := by
            rcases hk with h3 | ⟨-, rfl | rfl⟩
            · omega
            · rfl
            · rfl
          exact W.zret (v := x) hx hb (hr.trans h2) hx01 hend hJ.2.2.2.2 hdg
        · have hx01 : narrow .byte (.int x) = .int x := by
            rcases hk with h3 | ⟨-, rfl | rfl⟩
            · omega
            · rfl
            · rfl
          exact W.zret (v := x) hx hb (hr.trans h2) hx01 hend hJ.2.2.2.2 hdg
      · omega
      · omega
      · omega
    · rcases hrt with ⟨h1, h2⟩ | ⟨h1, h2⟩ | ⟨h1, h2⟩ | ⟨h1, h2⟩ | ⟨h1, h2⟩
      · omega
      · omega
      · omega
      · omega
      · exact W.lret (v := x) hx hb (hr.trans h2) hend hJ.2.2.2.2 hdg
    · rcases hrt with ⟨h1, h2⟩ | ⟨h1, h2⟩ | ⟨h1, h2⟩ | ⟨h1, h2⟩ | ⟨h1, h2⟩
      · omega
      · omega
      · omega
      · rcases h2 with ⟨C, h2⟩ | ⟨C, h2⟩
        · rcases hk2 with rfl | ⟨x, rfl⟩
          · exact W.aret (v := .null) hx hb (hr.trans h2) (Or.inl ⟨_, rfl⟩) (Or.inl rfl) hend hJ.2.2.2.2 hdg
          · exact W.aret (v := .ref (xm_phi b x)) hx hb (hr.trans h2) (Or.inl ⟨_, rfl⟩) (Or.inr ⟨_, rfl⟩) hend hJ.2.2.2.2 hdg
        · rcases hk2 with rfl | ⟨x, rfl⟩
          · exact W.aret (v := .null) hx hb (hr.trans h2) (Or.inr ⟨_, rfl⟩) (Or.inl rfl) hend hJ.2.2.2.2 hdg
          · exact W.aret (v := .ref (xm_phi b x)) hx hb (hr.trans h2) (Or.inr ⟨_, rfl⟩) (Or.inr ⟨_, rfl⟩) hend hJ.2.2.2.2 hdg
      · omega
    · rcases hrt with ⟨h1, h2⟩ | ⟨h1, h2⟩ | ⟨h1, h2⟩ | ⟨h1, h2⟩ | ⟨h1, h2⟩
      · omega
      · omega
      · exact W.vret hx hb (hr.trans h2) hend hJ.2.2.2.2 hdg
      · omega
      · omega
  · intro pc x q w' H locs cells slots ls rest ce hJ hce hcv hcl
    refine ⟨fun _ hQX hc hs => ?_, fun h hh => by simp [xm_hnd] at hh⟩
    exact vz_out (fun x hx => (htab x hx).elim) hlocks hce hcv hcl (fun t ht hW => ⟨x, q, w', rfl, rfl, hQX, by rw [ht]; exact hJ.1, hJ.2.1, hJ.2.2.F ht⟩) hJ.2.2.2.2 hc hs

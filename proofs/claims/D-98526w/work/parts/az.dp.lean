/-! ===== the entry of a method that catches ===== -/
set_option maxRecDepth 100000
theorem vz_outP {p : Program} {l : Launch} {e : Env} {R : Room} {s : State} {m : MethodId} {args : Array Value} {below : List Frame} {meth : Method} {c : Code} {H : Heap} {locs : List Loc} {cells slots : Nat} {free : Addr → Prop} {ls : Array Slot} {rest : List Value} {Qc : Array Value → State → Outcome → State → Prop} {XC : String → Addr → State → State → Prop}
    {pc : Nat} {own E : String} {ce : Cell} {q : Addr} {mc ms : Nat} (hown : s.vm.findClass own = some m.cls) (hlocks : meth.locks = false)
    (hpass : ∀ z ∈ c.exceptionTable.toList, covers z pc = false ∨ (z.catchType ≠ 0 ∧ ∃ nm : String, (Cond.classLink own z.catchType nm).before args s = true ∧ va_Nc E nm s)) (hcell : H[q]? = some ce) (hv : ce.vm = .none) (hcl : s.vm.findClass E = some ce.cls)
    (hx : ∀ t : State, t.heap = H → s.vm.Alike t.vm → XC E q s t) (hf : ∀ z ∈ locs, free z.base) (hc : cells ≤ mc) (hs : slots ≤ ms) :
    vx_W p l e R s m args below meth c H locs cells slots (vz_MQ below Qc XC args s mc ms free) (F0 m pc ls rest) q := by
  intro T hT X
  have hpl : e.platform.magicAccessors = ({} : Platform).magicAccessors := by rw [X.admits.platform]
  obtain ⟨vm', hW', X', st⟩ := X.outThrough hlocks q (g := F0 m pc ls rest) rfl rfl rfl (cell := ce) (by rw [hT]; exact hcell) (by rw [hv]; rfl)
    (by obtain ⟨k9, h9, -⟩ := Vm.findClass_spec hcl; exact ⟨k9, h9⟩) (fun z hz => by
      rcases hpass z hz with h | ⟨hz0, nm, hl1, hn1⟩
      · exact Or.inl h
      · obtain ⟨c6, hc6, hcl6⟩ := Cond.classLink_spec hown hl1 e.platform hpl
        obtain ⟨a8, b8, h1, h2, h3⟩ := hn1
        cases Option.some.inj (h1.symm.trans hcl)
        cases Option.some.inj (h2.symm.trans hc6)
        exact Or.inr ⟨hz0, _, hcl6, h3⟩)
  obtain ⟨g₀, hfr⟩ := X'.frames_eq
  have hcell9 : ((T.setVm vm').setFrames (.throwing q :: below)).heap[q]? = some ce := by
    show T.heap[q]? = some ce
    rw [hT]; exact hcell
  have hend : Ended ((T.setVm vm').setFrames (.throwing q :: below)) below (.threw q) := State.frames_setFrames _ (State.cur_lt_of_frames hfr)
  refine ⟨(T.setVm vm').setFrames (.throwing q :: below), ?_, .threw q, X'.here.running, hend, Or.inr ⟨q, rfl, E, ce, locs, hx _ hT (X'.ends _).1.alike, hcell9, hv, hcl, (X'.ends _).1, (X'.ends _).2.mono hc hs, hf⟩⟩
  rw [X.pushThrowing_eq]
  exact st
def xm_pass (own : String) (args : Array Value) (s : State) (pc x : Nat) (z : ExceptionTableEntry) : Prop := covers z pc = false ∨ (z.catchType ≠ 0 ∧ ∃ nm : String, (Cond.classLink own z.catchType nm).before args s = true ∧ va_Nc (xm_xn x) nm s)
section
variable {p : Program} {l : Launch} {e : Env} {R : Room} {s : State} {m : MethodId} {args : Array Value} {below : List Frame} {meth : Method} {c : Code} {H : Heap} {locs : List Loc} {cells slots : Nat} {Q : State → Prop} {ls : Array Slot} {rest : List Value} {pc : Nat}
theorem vz_catchP {own : String} {x : Nat} {ce : Cell} {q : Addr} (hown : s.vm.findClass own = some m.cls) (pre : List ExceptionTableEntry) (z : ExceptionTableEntry) (suf : List ExceptionTableEntry) (hsplit : c.exceptionTable.toList = pre ++ z :: suf)
    (hpass : ∀ y ∈ pre, xm_pass own args s pc x y) (hx : covers z pc = true) (hca : z.catchType = 0 ∨ (z.catchType ≠ 0 ∧ ∃ nm : String, (Cond.classLink own z.catchType nm).before args s = true ∧ (Cond.castable (xm_xn x) nm).before args s = true)) (hcell : H[q]? = some ce) (hv : ce.vm = .none) (hcl : s.vm.findClass (xm_xn x) = some ce.cls)
    (kk : W p l e R s m args below meth c H locs cells slots Q (F0 m z.handlerPc ls [.ref q])) : vx_W p l e R s m args below meth c H locs cells slots Q (F0 m pc ls rest) q := by
  intro T hT X
  have hpl : e.platform.magicAccessors = ({} : Platform).magicAccessors := by rw [X.admits.platform]
  obtain ⟨vm', X', st⟩ := X.thenCaughtThrough q (g := F0 m pc ls rest) rfl (Steps.refl _) (by rw [hT]; exact hcell) (by rw [hv]; rfl) (by obtain ⟨k9, h9, -⟩ := Vm.findClass_spec hcl; exact ⟨k9, h9⟩) pre z suf hsplit
    (fun y hy => by
      rcases hpass y hy with h | ⟨hz0, nm, hl1, hn1⟩
      · exact Or.inl h
      · obtain ⟨c6, hc6, hcl6⟩ := Cond.classLink_spec hown hl1 e.platform hpl
        obtain ⟨a8, b8, h1, h2, h3⟩ := hn1
        cases Option.some.inj (h1.symm.trans hcl)
        cases Option.some.inj (h2.symm.trans hc6)
        exact Or.inr ⟨hz0, _, hcl6, h3⟩) hx (by
      rcases hca with h0 | ⟨h0, nm, hlink, hcast⟩
      · exact Or.inl h0
      · obtain ⟨c3, c4, hc3, hc4, hasg⟩ := Cond.castable_spec hcast
        cases Option.some.inj (hc3.symm.trans hcl)
        obtain ⟨c5, hc5, hcl5⟩ := Cond.classLink_spec hown hlink e.platform hpl
        cases Option.some.inj (hc4.symm.trans hc5)
        exact Or.inr ⟨h0, c4, hcl5, hasg⟩)
  obtain ⟨t, a1, b1⟩ := kk (T.setVm vm') hT X'
  exact ⟨t, st.trans a1, b1⟩
end
/-- the rows of a table as the walk has them: class 9 takes all -/
def xm_row (own : String) (r q : Nat × Nat × Nat × Nat) : Prop := r.1 = q.1 ∧ r.2.1 = q.2.1 ∧ r.2.2.1 = q.2.2.2 ∧ ((r.2.2.2 = 0 ∧ q.2.2.1 = 9) ∨ (r.2.2.2 ≠ 0 ∧ q.2.2.1 < 3 ∧ Cond.classLink own r.2.2.2 (xm_xn q.2.2.1) ∈ lw_all ∧ Cond.castable (xm_xn q.2.2.1) (xm_xn q.2.2.1) ∈ lw_tbl))
def xm_rows (own : String) : List (Nat × Nat × Nat × Nat) → List (Nat × Nat × Nat × Nat) → Prop
  | [], [] => True
  | r :: t, q :: u => xm_row own r q ∧ xm_rows own t u
  | _, _ => False
theorem xm_xc_lt (x : Nat) : xm_xc x < 3 := match x with
  | 0 => by decide
  | 1 => by decide
  | _ + 2 => by show 2 < 3; decide
theorem xm_xc_n (x : Nat) : xm_xn (xm_xc x) = xm_xn x := match x with
  | 0 => rfl
  | 1 => rfl
  | _ + 2 => rfl
section
variable {args : Array Value} {s : State} {own : String} {pc x : Nat}
theorem xm_cov {z : ExceptionTableEntry} {a b : Nat} (h1 : z.startPc = a) (h2 : z.endPc = b) : covers z pc = (Nat.ble a pc && Nat.blt pc b) := by
  subst h1
  subst h2
  unfold covers
  rw [Bool.eq_iff_iff]
  simp [Nat.ble_eq, Nat.blt_eq]
theorem xm_tab_n (hts : ∀ w ∈ lw_all, w.before args s = true) (hNC : xm_NC s) : ∀ {tbl : List ExceptionTableEntry} {hh hs : List (Nat × Nat × Nat × Nat)}, tbl.map (fun h => (h.startPc, h.endPc, h.handlerPc, h.catchType)) = hh → xm_rows own hh hs → xm_hnd hs pc x = none → ∀ z ∈ tbl, xm_pass own args s pc x z
  | [], _, _, _, _, _, z, hz => by cases hz
  | y :: tbl, [], hs, hm, _, _, z, hz => by cases hm
  | y :: tbl, r :: hh, [], hm, hr, _, z, hz => hr.elim
  | y :: tbl, r :: hh, q :: hs, hm, hr, hn, z, hz => by
    rw [List.map_cons, List.cons.injEq] at hm
    obtain ⟨hm1, hm2⟩ := hm
    subst hm1
    obtain ⟨⟨r1, r2, r3, r4⟩, hr⟩ := hr
    obtain ⟨a, b, cl, h⟩ := q
    have hc := xm_cov (z := y) (pc := pc) (a := a) (b := b) r1 r2
    have hn' : (match Nat.ble a pc && Nat.blt pc b && (cl == 9 || cl == xm_xc x) with | true => some h | false => xm_hnd hs pc x) = none := hn
    cases e : Nat.ble a pc && Nat.blt pc b && (cl == 9 || cl == xm_xc x) with
    | true => rw [e] at hn'; cases hn'
    | false =>
      rw [e] at hn'
      rcases List.mem_cons.mp hz with rfl | hz
      · cases e2 : Nat.ble a pc && Nat.blt pc b with
        | false => exact Or.inl (hc.trans e2)
        | true =>
          rw [e2, Bool.true_and, Bool.or_eq_false_iff] at e
          rcases r4 with ⟨-, q9⟩ | ⟨t0, q3, lk, -⟩
          · have q9 : cl = 9 := q9
            rw [q9] at e
            cases e.1
          · have hne : xm_xc x ≠ cl := fun z => by
              have := e.2
              rw [z] at this
              simp at this
            have := hNC (xm_xc x) cl (xm_xc_lt x) q3 hne
            rw [xm_xc_n] at this
            exact Or.inr ⟨t0, xm_xn cl, hts _ lk, this⟩
      · exact xm_tab_n hts hNC hm2 hr hn' z hz
theorem xm_tab_s (hts : ∀ w ∈ lw_all, w.before args s = true) (hN : xm_N s) (hNC : xm_NC s) : ∀ {tbl : List ExceptionTableEntry} {hh hs : List (Nat × Nat × Nat × Nat)} {h : Nat}, tbl.map (fun h => (h.startPc, h.endPc, h.handlerPc, h.catchType)) = hh → xm_rows own hh hs → xm_hnd hs pc x = some h → ∃ pre z suf, tbl = pre ++ z :: suf ∧ z.handlerPc = h ∧ covers z pc = true ∧ (∀ y ∈ pre, xm_pass own args s pc x y) ∧ (z.catchType = 0 ∨ (z.catchType ≠ 0 ∧ ∃ nm : String, (Cond.classLink own z.catchType nm).before args s = true ∧ (Cond.castable (xm_xn x) nm).before args s = true))
  | [], [], [], _, _, _, hn => by cases hn
  | [], _ :: _, _, _, hm, _, _ => by cases hm
  | [], [], _ :: _, _, _, hr, _ => hr.elim
  | y :: tbl, [], hs, _, hm, _, _ => by cases hm
  | y :: tbl, r :: hh, [], _, hm, hr, _ => hr.elim
  | y :: tbl, r :: hh, q :: hs, h, hm, hr, hn => by
    rw [List.map_cons, List.cons.injEq] at hm
    obtain ⟨hm1, hm2⟩ := hm
    subst hm1
    obtain ⟨⟨r1, r2, r3, r4⟩, hr⟩ := hr
    obtain ⟨a, b, cl, h'⟩ := q
    have hc := xm_cov (z := y) (pc := pc) (a := a) (b := b) r1 r2
    have chp : y.handlerPc = h' := r3
    have hn' : (match Nat.ble a pc && Nat.blt pc b && (cl == 9 || cl == xm_xc x) with | true => some h' | false => xm_hnd hs pc x) = some h := hn
    cases e : Nat.ble a pc && Nat.blt pc b && (cl == 9 || cl == xm_xc x) with
    | true =>
      rw [e] at hn'
      have hn' : some h' = some h := hn'
      cases hn'
      rw [Bool.and_eq_true] at e
      refine ⟨[], y, tbl, rfl, chp, hc.trans e.1, fun z hz => by (cases hz), ?_⟩
      rcases r4 with ⟨t0, -⟩ | ⟨t0, q3, lk, cs⟩
      · exact Or.inl (t0)
      · have q3 : cl < 3 := q3
        have e2 := e.2
        rw [Bool.or_eq_true] at e2
        have ecl : cl = xm_xc x := by
          rcases e2 with e2 | e2
          · have := beq_iff_eq.mp e2
            omega
          · exact beq_iff_eq.mp e2
        refine Or.inr ⟨t0, xm_xn cl, hts _ lk, ?_⟩
        have := va_Nw.use (A := args) rfl (hN _ cs rfl)
        rw [ecl, xm_xc_n] at this ⊢
        exact this
    | false =>
      rw [e] at hn'
      obtain ⟨pre, z, suf, e1, e2, e3, e4, e5⟩ := xm_tab_s hts hN hNC hm2 hr hn'
      refine ⟨y :: pre, z, suf, by rw [e1]; rfl, e2, e3, fun w hw => ?_, e5⟩
      rcases List.mem_cons.mp hw with rfl | hw
      · cases e6 : Nat.ble a pc && Nat.blt pc b with
        | false => exact Or.inl (hc.trans e6)
        | true =>
          rw [e6, Bool.true_and, Bool.or_eq_false_iff] at e
          rcases r4 with ⟨-, q9⟩ | ⟨t0, q3, lk, -⟩
          · have q9 : cl = 9 := q9
            rw [q9] at e
            cases e.1
          · have hne : xm_xc x ≠ cl := fun z => by
              have := e.2
              rw [z] at this
              simp at this
            have := hNC (xm_xc x) cl (xm_xc_lt x) q3 hne
            rw [xm_xc_n] at this
            exact Or.inr ⟨t0, xm_xn cl, hts _ lk, this⟩
      · exact e4 w hw
end
set_option maxHeartbeats 4000000 in
theorem xm_enterH {hh hs : List (Nat × Nat × Nat × Nat)} {Iv : xI} {y : MethodName} {own : String} {cc : ByteArray} {maxL rt fr mc ms : Nat} {ret : Option FieldType} {init : Bool} {calls : List (Nat × Nat × Nat × xS)} {blks : List (Nat × List xE)} {S : xS}
    (hy : plainName y.cls = true) (hown : y.cls = own) (hin : init = true → y.name = "<init>") (hrt : xm_rt rt ret)
    (hok : ∀ q ∈ blks, xm_okb Iv own cc init fr calls q.2 q.1) (hrows : xm_rows own hh hs) (hnc : ∀ A U H, Iv A U H → xm_NC U) (body : xm_Body maxL rt mc ms hs calls blks S) : xm_Ct Iv y (wsW_ y cc maxL ret hh) fr mc ms S := by
  intro l hl D dA b A avs w Q QX sz hS hA hdom
  refine vz_ofWH (cc := cc) (maxL := maxL) (ret := ret) (hh := hh) hy rfl ?_
  intro p e s m args below meth c s₁ B hml hv
  obtain ⟨rfl, hsz, hR, hK, hN, hI⟩ := hv
  subst hsz
  subst hown
  have hts0 := atoms_spec (ws := wsW_ y cc maxL ret hh) B.pre
  have hts : ∀ w ∈ lw_all, w.before (xm_cs b avs).toArray s = true := fun w h => hts0 w (List.mem_cons_of_mem _ h)
  have hown : s.vm.findClass y.cls = some m.cls := findClass_of_methodNamed B.named
  have C0 : xm_Cx p l s m (xm_cs b avs).toArray meth c D dA A maxL Iv y.cls cc := ⟨B.exec, B.bytes, hml, hown, hts, hK, hN, hI, hA, hl, B.notSynchronized⟩
  have hNC := hnc _ _ _ hI
  have htb : ∀ T locs cells slots H, T.heap = H → Stand p l e (headSpec (wsW_ y cc maxL ret hh) (xm_rm fr mc ms)).room s m (xm_cs b avs).toArray below meth c T locs cells slots → c.exceptionTable.toList.map (fun h => (h.startPc, h.endPc, h.handlerPc, h.catchType)) = hh := fun T locs cells slots H hT X => by
    obtain ⟨m9, meth9, c9, hn9, h1, h2, -, -, h5, -, -, -⟩ := Cond.codeWith_spec (hts0 _ List.mem_cons_self)
    cases B.named.symm.trans hn9
    cases Option.some.inj (h1.symm.trans B.method)
    cases Option.some.inj (h2.symm.trans X.code)
    exact h5
  have hJ0 : xm_J D dA b A s.heap w s.heap [] := ⟨hR, hdom, va_S.rf⟩
  have hb := B.bytes
  have hr := B.returns
  have hx := B.exec
  have hlocks := B.notSynchronized
  have hstep := fun q hq => xm_step (R := (headSpec (wsW_ y cc maxL ret hh) (xm_rm fr mc ms)).room) (e := e) (below := below) (b := b) (mc := mc) (ms := ms) (rt := rt) (Q := Q) (QX := QX) (hs := hs) (calls := calls) (init := init) (fr := fr) (Qf := vz_MQ below (xm_Qc D dA b A Q) (xm_XQ D dA b A QX) (xm_cs b avs).toArray s mc ms A) C0
    (fun h => by rw [← hin h]; exact (name_of_methodNamed B.named B.method).1) (Nat.le_refl _) (Nat.le_refl _) (Nat.le_refl _) (Nat.le_refl _) ?_ ?_ q.2 q.1 (hok q hq)
  · obtain ⟨hav, h0⟩ := body _ avs w Q QX (fun q hq lv st w cb sb h => hstep q hq lv st w cb sb h) hS
    have hl0 := lv_entry (xm_cs b avs) (n := maxL) (xm_av_len b maxL avs hav)
    rw [lg_entry_eq]
    refine h0 s.heap [] 0 0 _ hJ0 ⟨xm_lv0_len maxL avs, _, hl0, fun i v hv => ?_⟩ (by omega) (by omega)
    have := xm_lv0_get b maxL avs 0 i v hav hv
    rwa [Nat.zero_add] at this
  · intro i v pc w' H locs cells slots ls hdg hk hQ hJ hc hs
    have hend : ∀ t : State, t.heap = H → s.WarmedH t.vm → xm_Qc D dA b A Q (xm_cs b avs).toArray s (.returned (v.map (xm_cv b))) t := fun t ht hW => ⟨v, w', rfl, hQ, by rw [ht]; exact hJ.1, hJ.2.1, hJ.2.2.F ht⟩
    refine vz_ret (W.widen hc hs ?_)
    rcases hk with ⟨rfl, x, rfl, hk⟩ | ⟨rfl, hk, x, rfl⟩ | ⟨rfl, hk, hk2⟩ | ⟨rfl, hk, rfl⟩
    · rcases hrt with ⟨h1, h2⟩ | ⟨h1, h2⟩ | ⟨h1, h2⟩ | ⟨h1, h2⟩ | ⟨h1, h2⟩
      · exact W.zret (v := x) hx hb (hr.trans h2) rfl hend hJ.2.2.2.2 hdg
      · rcases h2 with h2 | h2
        · have hx01 : narrow .boolean (.int x) = .int x := by
            rcases hk with h3 | ⟨-, rfl | rfl⟩
            · omega
            · rfl
            · rfl
          exact W.zret (v := x) hx hb (hr.trans h2) hx01 hend hJ.2.2.2.2 hdg
        · have hx01 : narrow .byte (.int x) = .int x := by
            rcases hk with h3 | ⟨-, rfl | rfl⟩
            · omega
            · rfl
            · rfl
          exact W.zret (v := x) hx hb (hr.trans h2) hx01 hend hJ.2.2.2.2 hdg
      · omega
      · omega
      · omega
    · rcases hrt with ⟨h1, h2⟩ | ⟨h1, h2⟩ | ⟨h1, h2⟩ | ⟨h1, h2⟩ | ⟨h1, h2⟩
      · omega
      · omega
      · omega
      · omega
      · exact W.lret (v := x) hx hb (hr.trans h2) hend hJ.2.2.2.2 hdg
    · rcases hrt with ⟨h1, h2⟩ | ⟨h1, h2⟩ | ⟨h1, h2⟩ | ⟨h1, h2⟩ | ⟨h1, h2⟩
      · omega
      · omega
      · omega
      · rcases h2 with ⟨C, h2⟩ | ⟨C, h2⟩
        · rcases hk2 with rfl | ⟨x, rfl⟩
          · exact W.aret (v := .null) hx hb (hr.trans h2) (Or.inl ⟨_, rfl⟩) (Or.inl rfl) hend hJ.2.2.2.2 hdg
          · exact W.aret (v := .ref (xm_phi b x)) hx hb (hr.trans h2) (Or.inl ⟨_, rfl⟩) (Or.inr ⟨_, rfl⟩) hend hJ.2.2.2.2 hdg
        · rcases hk2 with rfl | ⟨x, rfl⟩
          · exact W.aret (v := .null) hx hb (hr.trans h2) (Or.inr ⟨_, rfl⟩) (Or.inl rfl) hend hJ.2.2.2.2 hdg
          · exact W.aret (v := .ref (xm_phi b x)) hx hb (hr.trans h2) (Or.inr ⟨_, rfl⟩) (Or.inr ⟨_, rfl⟩) hend hJ.2.2.2.2 hdg
      · omega
    · rcases hrt with ⟨h1, h2⟩ | ⟨h1, h2⟩ | ⟨h1, h2⟩ | ⟨h1, h2⟩ | ⟨h1, h2⟩
      · omega
      · omega
      · exact W.vret hx hb (hr.trans h2) hend hJ.2.2.2.2 hdg
      · omega
      · omega
  · intro pc x q w' H locs cells slots ls rest ce hJ hce hcv hcl
    refine ⟨fun hn hQX hc hs' => ?_, fun h hh' kk => ?_⟩
    · intro T hT X
      have ht := htb T locs cells slots H hT X
      exact vz_outP (own := y.cls) hown hlocks (xm_tab_n (args := (xm_cs b avs).toArray) (s := s) hts hNC ht hrows hn) hce hcv hcl (fun t ht hW => ⟨x, q, w', rfl, rfl, hQX, by rw [ht]; exact hJ.1, hJ.2.1, hJ.2.2.F ht⟩) hJ.2.2.2.2 hc hs' T hT X
    · intro T hT X
      have ht := htb T locs cells slots H hT X
      obtain ⟨pre, z, suf, e1, e2, e3, e4, e5⟩ := xm_tab_s (args := (xm_cs b avs).toArray) (s := s) hts hN hNC ht hrows hh'
      rw [← e2] at kk
      exact vz_catchP (own := y.cls) hown pre z suf e1 e4 e3 e5 hce hcv hcl kk T hT X


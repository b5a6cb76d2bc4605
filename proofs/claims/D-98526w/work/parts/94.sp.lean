/-! ===== throwing, virtual calls, what a run of the component keeps ===== -/
set_option maxRecDepth 100000
section
variable {p : Program} {l : Launch} {e : Env} {R : Room} {s : State} {m : MethodId} {args : Array Value} {below : List Frame} {meth : Method} {c : Code}
theorem vz_callVU {T : State} {locs : List Loc} {cells slots : Nat} (X : Stand p l e R s m args below meth c T locs cells slots) (hexec : p.tables.exec = Jvm.exec) {own C owner : String} {index : Nat} {x y : MethodName} {bytes : ByteArray} {maxL : Nat} {ret : Option FieldType}
    (hown : s.vm.findClass own = some m.cls) (hlink : (Cond.methodLink own index x).before args s = true) (hsame : (Cond.sameMethod x.cls owner x.name x.desc).before args s = true)
    (hd0 : va_Decl s ⟨owner, x.name, x.desc⟩) (howner : owner ≠ "java/lang/invoke/MethodHandle" ∧ owner ≠ "java/lang/invoke/VarHandle")
    (hsel : (Cond.selects C x y).before args s = true) (hinst : (Cond.instanceMethod y).before args s = true) (hcode : (Cond.code y bytes maxL ret).before args s = true)
    {W : Nat} {Pre : Pt → Array Value → Prop} {Post : Pt → Array Value → Option Value → Pt → Prop} {PostX : Pt → Array Value → Addr → Pt → Prop} (hK : vz_Back l R p e below s args y 3 W Pre Post PostX)
    {b : Addr} {cellB : Cell} (hcell : T.heap[b]? = some cellB) (hobj : cellB.vm.isStatics = false) (hcls : s.vm.findClass C = some cellB.cls)
    {g : JFrame} (hg : g.method = m) (hsize : g.locals.size = c.maxLocals) {argsL rest : List Value} (hlen : ∀ sig, parseMethodDescriptor x.desc = some sig → argsL.length = sig.parameters.length)
    (hstack : g.stack = argsL.reverse ++ .ref b :: rest) (hW : 2 * g.monitorRoom + (rest.map fun v => v.category).sum ≤ W) (hdg : decode c.code g.pc = .ok (.invokevirtual index, 3))
    (hpre : ∀ vm₁, s.WarmedH vm₁ → Pre ⟨T.setVm vm₁, locs, cells, slots⟩ (Value.ref b :: argsL).toArray) :
    (∃ (v : Option Value) (vm₁ : Vm) (B : Pt), s.WarmedH vm₁ ∧ Stand p l e R s m args below meth c B.U B.locs B.cells B.slots ∧ Post ⟨T.setVm vm₁, locs, cells, slots⟩ (Value.ref b :: argsL).toArray v B ∧
      ∀ target, Steps p.tables e below (B.U.setTop { g with pc := g.pc + 3, stack := v.toList ++ rest }) target → Steps p.tables e below (T.setTop g) target) ∨
    (∃ (q : Addr) (vm₁ : Vm) (B : Pt), s.WarmedH vm₁ ∧ Stand p l e R s m args below meth c B.U B.locs B.cells B.slots ∧ PostX ⟨T.setVm vm₁, locs, cells, slots⟩ (Value.ref b :: argsL).toArray q B ∧
      Steps p.tables e below (T.setTop g) ((B.U.setTop { g with stack := rest }).pushFrame (.throwing q))) := by
  obtain ⟨r0, r, hn, hrm, hstR, hsigR⟩ := hd0
  obtain ⟨cn, ck, r1, hcn, hck, hni, hf, hn1⟩ := Cond.sameMethod_found hsame
  cases hn.symm.trans hn1
  obtain ⟨mk, methM, hnamed, hmethM, -, habM⟩ := Cond.instanceMethod_spec hinst
  obtain ⟨c2, r2, m2, q1, q2, q3, q4, kP, hkP, hkPi⟩ := Cond.selects_spec hsel
  cases hcls.symm.trans q1
  cases hf.symm.trans q2
  cases hnamed.symm.trans q3
  have hselP : selectMethod e.platform s.vm cellB.cls r0 = .method mk := by rw [Launch.admits_selectMethod X.admits]; exact q4
  obtain ⟨vm₁, X₁, hstep₁⟩ := X.invokevirtualUp hexec hown hlink hsame howner hn hrm hstR (a := b) (cell := cellB) hcell
    (fun z h => by rw [h] at hobj; cases hobj) hselP hmethM habM hkP hkPi (g := g) hg (argsL := argsL) (rest := rest) (hlen _ hsigR) hstack hdg
  rcases hK m meth c ⟨T.setVm vm₁, locs, cells, slots⟩ { g with stack := rest } (.invokevirtual index) mk (Value.ref b :: argsL).toArray X₁ hg hsize hdg hW (X₁.named hnamed) (hpre vm₁ X₁.warmed) with ⟨v, B, X', hpost, hsteps⟩ | ⟨q, B, X', hpost, hsteps⟩
  · exact Or.inl ⟨v, vm₁, B, X₁.warmed, X', hpost, fun target h => hstep₁ _ fun acts => by rw [doInvoke_state]; exact hsteps.trans h⟩
  · exact Or.inr ⟨q, vm₁, B, X₁.warmed, X', hpost, hstep₁ _ fun acts => by rw [doInvoke_state]; exact hsteps⟩
end
/-! string constants -/
def cTb : List (List Int32) := [[104, 97, 110, 100], [112, 117, 112, 112, 101, 116], [119, 111, 114, 107, 115], [113, 117, 97, 114, 114, 101, 108], [115, 105, 108, 101, 110, 116], [97, 99, 116], [111, 119, 101, 115], [119, 101, 97, 114], [101, 110, 100], [108, 105, 109, 112], [102, 97, 108, 108], [97, 103, 101], [115, 116, 114, 105, 110, 103, 115], [121, 101, 97, 114], [110, 117, 109, 98, 101, 114], [107, 105, 110], [108, 101, 97, 115, 116], [109, 111, 115, 116]]
def cTl : List Nat := cTb.map (fun x => x.length)
def cTx : List String := ["hand", "puppet", "works", "quarrel", "silent", "act", "owes", "wear", "end", "limp", "fall", "age", "strings", "year", "number", "kin", "least", "most"]
def cTu : List (String × Nat × Nat) := [("PuppetHeirs$FamilyReader", 46, 0), ("PuppetHeirs$FamilyReader", 57, 1), ("PuppetHeirs$FamilyReader", 93, 2), ("PuppetHeirs$FamilyReader", 95, 3), ("PuppetHeirs$FamilyReader", 97, 4), ("PuppetHeirs$FamilyReader", 62, 5), ("PuppetHeirs$FamilyReader", 99, 6), ("PuppetHeirs$FamilyReader", 101, 7), ("PuppetHeirs$FamilyReader", 183, 8), ("PuppetHeirs$LawReader", 80, 9), ("PuppetHeirs$LawReader", 86, 10), ("PuppetHeirs$LawReader", 88, 11), ("PuppetHeirs$LawReader", 90, 2), ("PuppetHeirs$LawReader", 92, 12), ("PuppetHeirs$LawReader", 94, 13), ("PuppetHeirs$LawReader", 96, 14), ("PuppetHeirs$LawReader", 97, 1), ("PuppetHeirs$LawReader", 99, 15), ("PuppetHeirs$LawReader", 101, 16), ("PuppetHeirs$LawReader", 103, 17)]
def xm_NC (U : State) : Prop := ∀ x y, x < 3 → y < 3 → x ≠ y → va_Nc (xm_xn x) (xm_xn y) U
theorem xm_NC.moved {u U : State} (hvm : u.vm.Alike U.vm) (h : xm_NC u) : xm_NC U := fun x y h1 h2 h3 => (h x y h1 h2 h3).moved hvm
def cI : xI := fun A U H => vx_Zq Bundle.tN "UNASSIGNED_STACK" Bundle.steD A U H ∧ vx_Zq Bundle.tN "SUPPRESSED_SENTINEL" Bundle.listD A U H ∧ va_Z "java/lang/String" "COMPACT_STRINGS" "Z" (.int 1) A U H ∧ va_AO "PuppetHeirs$Troupe" U ∧ va_AO "java/lang/Object" U ∧ xm_NC U ∧
  ∃ adK adV : Nat → Nat, vk_S 18 cTl cTb adK adV A U H ∧ ∀ q ∈ cTu, vk_R q.1 q.2.1 (cTx.getD q.2.2 "") (adK q.2.2) U
theorem cI_good : xm_good cI := by
  have same : ∀ (A : Nat → Prop) (u U : State) (H : Heap), u.vm.Alike U.vm → (∀ q ∈ cTu, ∀ a, vk_R q.1 q.2.1 (cTx.getD q.2.2 "") a u → vk_R q.1 q.2.1 (cTx.getD q.2.2 "") a U) → cI A u H → cI A U H := by
    intro A u U H hv hs ⟨h1, h2, h3, ha, hb, hc, adK, adV, h4, h5⟩
    exact ⟨h1.moved hv, h2.moved hv, va_Z.moved hv h3, ha.moved hv, hb.moved hv, hc.moved hv, adK, adV, h4.moved hv, fun q hq => hs q hq _ (h5 q hq)⟩
  refine ⟨fun A u U H hW h => same A u U H hW.alike (fun q _ a hq => hq.warm hW) h, fun A u U H hv h => same A u U H (by rw [hv]; exact Vm.Alike.refl U.vm) (fun q _ a hq => hq.same hv.symm) h, fun A U H H1 ⟨h1, h2, h3, ha, hb, hc, adK, adV, h4, h5⟩ hq => ?_, fun A B U H hAB ⟨h1, h2, h3, ha, hb, hc, adK, adV, h4, h5⟩ => ?_⟩
  · exact ⟨h1.kept hq, h2.kept hq, h3.kept hq, ha, hb, hc, adK, adV, h4.kept hq, h5⟩
  · exact ⟨h1.narrow hAB, h2.narrow hAB, h3.narrow hAB, ha, hb, hc, adK, adV, h4.narrow hAB, h5⟩
/-! a method found by the receiver's class -/
section
variable {Iv : xI} {own : String} {cc : ByteArray} {fr fr' mc ms pc idx n maxL : Nat} {S : xS} {x y : MethodName} {bytes : ByteArray} {ret : Option FieldType}
theorem xm_callU (tag : Nat) {r : vw_C} (hI : xm_good Iv) (hCt : xm_Ct Iv y (ws_ y bytes maxL ret) fr' mc ms S) (hdg : decode cc pc = .ok (.invokevirtual idx, 3)) (hl : Cond.methodLink own idx x ∈ lw_all) (hsame : Cond.sameMethod x.cls x.cls x.name x.desc ∈ lw_all) (hdc : Cond.declares x ∈ lw_tbl)
    (hin : Cond.instanceMethod y ∈ lw_all) (hse : Cond.selects r.1 x y ∈ lw_all) (hini : Cond.initialized y.cls ∈ lw_all) (hcw : Cond.code y bytes maxL ret ∈ lw_all)
    (hr : xm_cl[tag]? = some r) (hd : (x.cls ≠ "java/lang/invoke/MethodHandle" ∧ x.cls ≠ "java/lang/invoke/VarHandle") ∧ (parseMethodDescriptor x.desc).map (fun d => d.parameters.length) = some n) (hfr : fr' < fr) (hmL : maxL ≤ 43) : xm_CallOK Iv own cc fr pc (pc + 3) (n + 1) mc ms (xm_this tag S) := by
  intro p l e R s m args below meth c Qf D dA b A nL C0 hR1 hR2 as rest w K KX H locs cells slots ls hn h8 hS hJ hsz hc hs kk kx
  obtain ⟨hx, hb, hml, hown, hts, hK, hN, hIv, hA, hst, hlk⟩ := id C0
  match as, hS, hn with
  | .ref a :: as', ⟨⟨n', hl'⟩, hS⟩, hn =>
  obtain ⟨hB, hP⟩ := xm_paid (p := p) (e := e) (R := R) (below := below) hI C0 hCt rfl hcw hini hfr hmL hR1 hR2 hS hJ
  have htag : xm_bt tag = tag := xm_bt_lt (by
    have := (List.getElem?_eq_some_iff.mp hr).1
    simp [xm_cl] at this
    omega)
  obtain ⟨cellB, q1, q2, q3⟩ := xm_recv hK hJ.1 hl' htag hr
  have hlen : ∀ sig, parseMethodDescriptor x.desc = some sig → (xm_cs b as').length = sig.parameters.length := fun sig h => by
    have h2 := hd.2
    rw [h] at h2
    have h3 : sig.parameters.length = n := Option.some.inj h2
    simp [xm_cs] at hn ⊢
    omega
  have hstk : xm_cs b ((.ref a :: as').reverse ++ rest) = (xm_cs b as').reverse ++ .ref (xm_phi b a) :: xm_cs b rest := by simp [xm_cs, xm_cv]
  refine xm_core (as := (xm_cs b (.ref a :: as')).toArray) hJ (fun T hT X => ?_) kk kx
  exact vz_callVU X hx (C := r.1) (owner := x.cls) (bytes := bytes) (maxL := maxL) (ret := ret) hown (hts _ hl) (hts _ hsame) (va_Decl.abs (hN _ hdc rfl)) hd.1 (hts _ hse) (hts _ hin) (hts _ hcw) hB (by rw [hT]; exact q1) q2 q3 rfl (hsz.trans hml.symm) (argsL := xm_cs b as') (rest := xm_cs b rest) hlen hstk (xm_room h8) (by rw [hb]; exact hdg) (fun vm₁ hW₁ => ⟨hc, hs, hP (T.setVm vm₁) hT hW₁⟩)
theorem xm_CallOK.or {nx : Nat} {S1 S2 : xS} (h1 : xm_CallOK Iv own cc fr pc nx n mc ms S1) (h2 : xm_CallOK Iv own cc fr pc nx n mc ms S2) : xm_CallOK Iv own cc fr pc nx n mc ms (fun as w K KX => S1 as w K KX ∨ S2 as w K KX) := by
  intro p l e R s m args below meth c Qf D dA b A nL C0 hR1 hR2 as rest w K KX H locs cells slots ls hn h8 hS
  rcases hS with hS | hS
  · exact h1 p l e R s m args below meth c Qf D dA b A nL C0 hR1 hR2 as rest w K KX H locs cells slots ls hn h8 hS
  · exact h2 p l e R s m args below meth c Qf D dA b A nL C0 hR1 hR2 as rest w K KX H locs cells slots ls hn h8 hS
theorem xm_CallOK.mono {nx : Nat} {S S' : xS} (h : xm_CallOK Iv own cc fr pc nx n mc ms S) (hS' : ∀ as w K KX, S' as w K KX → S as w K KX) : xm_CallOK Iv own cc fr pc nx n mc ms S' := by
  intro p l e R s m args below meth c Qf D dA b A nL C0 hR1 hR2 as rest w K KX H locs cells slots ls hn h8 hS
  exact h p l e R s m args below meth c Qf D dA b A nL C0 hR1 hR2 as rest w K KX H locs cells slots ls hn h8 (hS' _ _ _ _ hS)
end
/-! throw new E() -/
def xm_ce : List String := ["java/lang/RuntimeException", "java/lang/Exception"]
def xm_isC (w : Cond) : Bool := match w with
  | .castable _ _ => true
  | .declares _ => true
  | _ => false
theorem xm_R.grow {D : va_G} {dA : Nat → ClassId} {b : Nat → Nat} {w : xW} {H H' : Heap} (h : xm_R D dA b w H) (hq : ∀ q, q < H.size → H'[q]? = H[q]?) : xm_R D dA b w H' :=
  ⟨fun a t n ha => (h.1 a t n ha).kept (hq _ (h.lt (by rw [ha]; exact fun z => by cases z))) (fun _ => rfl) (fun _ => rfl) (fun _ => rfl), h.2⟩
section
variable {p : Program} {l : Launch} {e : Env} {R : Room} {s : State} {m : MethodId} {args : Array Value} {below : List Frame} {meth : Method} {c : Code} {D : va_G} {dA : Nat → ClassId} {b : Nat → Nat} {A : Nat → Prop} {nL mc ms : Nat} {own : String} {cc : ByteArray} {w : xW} {H : Heap} {locs : List Loc} {cells slots : Nat} {ls : Array Slot} {pc : Nat}
theorem xm_throw {Q : Option Value → xW → Prop} {QX : Nat → Nat → xW → Prop} {x ik ic : Nat} {rest : List Value} (C0 : xm_Cx p l s m args meth c D dA A nL cI own cc) (hJ : xm_J D dA b A s.heap w H locs) (hsz : ls.size = nL) (htab : ∀ x ∈ c.exceptionTable.toList, False)
    (hfit : Bundle.fit (xm_xn x) = true) (hk : Cond.classLink own ik (xm_xn x) ∈ lw_all) (hini : Cond.initialized (xm_xn x) ∈ lw_all) (hat : ∀ w ∈ vx_at0 own ic (xm_xn x) xm_ce, w ∈ lw_tbl ∧ (goodWord w = true ∨ xm_isC w = true)) (hgood : ∀ w ∈ Cond.classLink own ik (xm_xn x) :: Cond.initialized (xm_xn x) :: vx_at0 own ic (xm_xn x) xm_ce, vx_ot w = true)
    (d0 : decode cc pc = .ok (.new ik, 3)) (d3 : decode cc (pc + 3) = .ok (.dup, 1)) (d4 : decode cc (pc + 4) = .ok (.invokespecial ic, 3)) (d7 : decode cc (pc + 7) = .ok (.athrow, 1))
    (hfr : 6 ≤ R.frames) (hlo : 64 * 6 ≤ R.locals) (h8 : xm_ct rest ≤ 10) (hmc : mc ≤ R.cells) (hms : ms ≤ R.slots) (hc : cells + 1 ≤ mc) (hs : slots + 6 ≤ ms) (hQ : ∀ a, 1000 ≤ a → QX x a w) :
    W p l e R s m args below meth c H locs cells slots (vz_MQ below (xm_Qc D dA b A Q) (xm_XQ D dA b A QX) args s mc ms A) (F0 m pc ls (xm_cs b rest)) := by
  obtain ⟨hx, hb, hml, hown, hts, hK, hN, hIv, hA, hst, hlk⟩ := C0
  have hats : ∀ w ∈ vx_at0 own ic (xm_xn x) xm_ce, w.before args s = true := fun w hw => by
    obtain ⟨g1, g2⟩ := hat w hw
    rcases g2 with g2 | g2
    · exact hts _ (lw_g g1 g2)
    · cases w with
      | castable a b => exact va_Nw.use rfl (hN _ g1 rfl)
      | declares a => exact va_Nw.use rfl (hN _ g1 rfl)
      | _ => cases g2
  have hcat : ((xm_cs b rest).map fun v => v.category).sum ≤ 10 := by
    rw [xm_cs_cat, ← xm_ct_eq]
    exact h8
  have hlen : xm_ce.length = 2 := rfl
  have := vx_throw0 (p := p) (e := e) (R := R) (below := below) (Qc := xm_Qc D dA b A Q) (XC := fun E s t => E = xm_xn x ∧ H.size ≤ t.heap.size ∧ ∀ q : Nat, q < H.size → t.heap[q]? = H[q]?) (free := A) (mc := mc) (ms := ms) (ls := ls) (rest := xm_cs b rest) hx hb hst hown hfit (names := xm_ce) (by decide +kernel) (hts _ hk) (hts _ hini) hats hgood hIv.1 hIv.2.1 hJ.2.2 (hsz.trans hml.symm) d0 d3 d4 d7 (fun x hx => (htab x hx).elim) (by omega) (by omega) (by omega) (by omega) hlk (fun t _ h1 h2 => ⟨rfl, h1, h2⟩) hJ.2.2.2.2 hc hs
  intro T hT X
  obtain ⟨t, a1, o, b1, b2, b3⟩ := this T hT X
  refine ⟨t, a1, o, b1, b2, ?_⟩
  rcases b3 with b3 | ⟨q, rfl, E, ce, L, ⟨rfl, g1, g2⟩, g3, g4, g5, g6, g7, g8⟩
  · exact Or.inl b3
  · refine Or.inr ⟨q, rfl, xm_xn x, ce, L, ⟨x, q + 1000, w, rfl, ?_, hQ _ (by omega), hJ.1.grow g2, hJ.2.1, Nat.le_trans hJ.2.2.1 g1, fun z z1 z2 => (g2 z (Nat.lt_of_lt_of_le z1 hJ.2.2.1)).trans (hJ.2.2.2.1 z z1 z2)⟩, g3, g4, g5, g6, g7, g8⟩
    show q = if q + 1000 < 1000 then b (q + 1000) else q + 1000 - 1000
    rw [if_neg (Nat.not_lt.mpr (Nat.le_add_left 1000 q))]
    exact (Nat.add_sub_cancel q 1000).symm
end
/-- at pc: new E; dup; <init>; athrow -/
def xm_thrOK (own : String) (cc : ByteArray) (pc x : Nat) : Prop := ∃ ik ic, Bundle.fit (xm_xn x) = true ∧ Cond.classLink own ik (xm_xn x) ∈ lw_all ∧ Cond.initialized (xm_xn x) ∈ lw_all ∧ (∀ w ∈ vx_at0 own ic (xm_xn x) xm_ce, w ∈ lw_tbl ∧ (goodWord w = true ∨ xm_isC w = true)) ∧ (∀ w ∈ Cond.classLink own ik (xm_xn x) :: Cond.initialized (xm_xn x) :: vx_at0 own ic (xm_xn x) xm_ce, vx_ot w = true) ∧
  decode cc pc = .ok (.new ik, 3) ∧ decode cc (pc + 3) = .ok (.dup, 1) ∧ decode cc (pc + 4) = .ok (.invokespecial ic, 3) ∧ decode cc (pc + 7) = .ok (.athrow, 1)
def xm_BodyT (maxL rt mc ms : Nat) (calls : List (Nat × Nat × Nat × xS)) (blks : List (Nat × List xE)) (thr : List (Nat × Nat)) (S : xS) : Prop :=
  ∀ (X : xX) (avs : List Value) (w : xW) (Q : Option Value → xW → Prop) (QX : Nat → Nat → xW → Prop),
    (∀ q ∈ blks, ∀ (lv : xL) (st : List Value) (w : xW) (cb sb : Nat), xm_vc (X, Q, QX, [], calls, rt) q.2 q.1 lv st w cb sb → X q.1 lv st w cb sb) →
    (∀ q ∈ thr, ∀ (lv : xL) (st : List Value) (w : xW) (cb sb : Nat), xm_ct st ≤ 10 → 1 ≤ cb → 6 ≤ sb → (∀ a, 1000 ≤ a → QX q.2 a w) → X q.1 lv st w cb sb) →
    S avs w Q QX → xm_av maxL avs = true ∧ X 0 (xm_lv0 maxL avs) [] w mc ms
set_option maxHeartbeats 4000000 in
theorem xm_enterT {y : MethodName} {own : String} {cc : ByteArray} {maxL rt fr mc ms : Nat} {ret : Option FieldType} {init : Bool} {calls : List (Nat × Nat × Nat × xS)} {thr : List (Nat × Nat)} {blks : List (Nat × List xE)} {S : xS}
    (hy : plainName y.cls = true) (hown : y.cls = own) (hin : init = true → y.name = "<init>") (hrt : xm_rt rt ret)
    (hok : ∀ q ∈ blks, xm_okb cI own cc init fr calls q.2 q.1) (h6 : 6 ≤ fr) (hthr : ∀ q ∈ thr, xm_thrOK own cc q.1 q.2) (body : xm_BodyT maxL rt mc ms calls blks thr S) : xm_Ct cI y (ws_ y cc maxL ret) fr mc ms S := by
  intro l hl D dA b A avs w Q QX sz hS hA hdom
  refine vz_ofW (cc := cc) (maxL := maxL) (ret := ret) hy rfl ?_
  intro p e s m args below meth c s₁ B hml htab hv
  obtain ⟨rfl, hsz, hR, hK, hN, hI⟩ := hv
  subst hsz
  subst hown
  have hts := atoms_spec (ws := ws_ y cc maxL ret) B.pre
  have hts : ∀ w ∈ lw_all, w.before _ s = true := fun w h => hts w (List.mem_cons_of_mem _ h)
  have hown : s.vm.findClass y.cls = some m.cls := findClass_of_methodNamed B.named
  have C0 : xm_Cx p l s m (xm_cs b avs).toArray meth c D dA A maxL cI y.cls cc := ⟨B.exec, B.bytes, hml, hown, hts, hK, hN, hI, hA, hl, B.notSynchronized⟩
  have hJ0 : xm_J D dA b A s.heap w s.heap [] := ⟨hR, hdom, va_S.rf⟩
  have hb := B.bytes
  have hr := B.returns
  have hx := B.exec
  have hlocks := B.notSynchronized
  have hstep := fun q hq => xm_step (R := (headSpec (ws_ y cc maxL ret) (xm_rm fr mc ms)).room) (e := e) (below := below) (b := b) (mc := mc) (ms := ms) (rt := rt) (Q := Q) (QX := QX) (hs := []) (calls := calls) (init := init) (fr := fr) (Qf := vz_MQ below (xm_Qc D dA b A Q) (xm_XQ D dA b A QX) (xm_cs b avs).toArray s mc ms A) C0
    (fun h => by rw [← hin h]; exact (name_of_methodNamed B.named B.method).1) (Nat.le_refl _) (Nat.le_refl _) (Nat.le_refl _) (Nat.le_refl _) ?_ ?_ q.2 q.1 (hok q hq)
  · obtain ⟨hav, h0⟩ := body _ avs w Q QX (fun q hq lv st w cb sb h => hstep q hq lv st w cb sb h) (fun q hq lv st w cb sb h8 hcb hsb hQ H locs cells slots ls hJ hl hc hs => by
        obtain ⟨ik, ic, t1, t2, t3, t4, t5, t6, t7, t8, t9⟩ := hthr q hq
        exact xm_throw (R := (headSpec (ws_ y cc maxL ret) (xm_rm fr mc ms)).room) C0 hJ hl.size htab t1 t2 t3 t4 t5 t6 t7 t8 t9 (by show 6 ≤ fr; exact h6) (by show 64 * 6 ≤ 64 * fr; omega) h8 (Nat.le_refl _) (Nat.le_refl _) (by omega) (by omega) hQ) hS
    have hl0 := lv_entry (xm_cs b avs) (n := maxL) (xm_av_len b maxL avs hav)
    rw [lg_entry_eq]
    refine h0 s.heap [] 0 0 _ hJ0 ⟨xm_lv0_len maxL avs, _, hl0, fun i v hv => ?_⟩ (by omega) (by omega)
    have := xm_lv0_get b maxL avs 0 i v hav hv
    rwa [Nat.zero_add] at this
  · intro i v pc w' H locs cells slots ls hdg hk hQ hJ hc hs
    have hend : ∀ t : State, t.heap = H → s.WarmedH t.vm → xm_Qc D dA b A Q (xm_cs b avs).toArray s (.returned (v.map (xm_cv b))) t := fun t ht hW => ⟨v, w', rfl, hQ, by rw [ht]; exact hJ.1, hJ.2.1, hJ.2.2.F ht⟩
    refine vz_ret (W.widen hc hs ?_)
    rcases hk with ⟨rfl, x, rfl, hk⟩ | ⟨rfl, hk, x, rfl⟩ | ⟨rfl, hk, hk2⟩ | ⟨rfl, hk, rfl⟩
    · rcases hrt with ⟨h1, h2⟩ | ⟨h1, h2⟩ | ⟨h1, h2⟩ | ⟨h1, h2⟩ | ⟨h1, h2⟩
      · exact W.zret (v := x) hx hb (hr.trans h2) rfl hend hJ.2.2.2.2 hdg
      · rcases h2 with h2 | h2
        · have hx01 : narrow .boolean (.int x) = .int x := by
            rcases hk with h3 | ⟨-, rfl | rfl⟩
            · omega
            · rfl
            · rfl
          exact W.zret (v := x) hx hb (hr.trans h2) hx01 hend hJ.2.2.2.2 hdg
        · have hx01 : narrow .byte (.int x) = .int x := by
            rcases hk with h3 | ⟨-, rfl | rfl⟩
            · omega
            · rfl
            · rfl
          exact W.zret (v := x) hx hb (hr.trans h2) hx01 hend hJ.2.2.2.2 hdg
      · omega
      · omega
      · omega
    · rcases hrt with ⟨h1, h2⟩ | ⟨h1, h2⟩ | ⟨h1, h2⟩ | ⟨h1, h2⟩ | ⟨h1, h2⟩
      · omega
      · omega
      · omega
      · omega
      · exact W.lret (v := x) hx hb (hr.trans h2) hend hJ.2.2.2.2 hdg
    · rcases hrt with ⟨h1, h2⟩ | ⟨h1, h2⟩ | ⟨h1, h2⟩ | ⟨h1, h2⟩ | ⟨h1, h2⟩
      · omega
      · omega
      · omega
      · rcases h2 with ⟨C, h2⟩ | ⟨C, h2⟩
        · rcases hk2 with rfl | ⟨x, rfl⟩
          · exact W.aret (v := .null) hx hb (hr.trans h2) (Or.inl ⟨_, rfl⟩) (Or.inl rfl) hend hJ.2.2.2.2 hdg
          · exact W.aret (v := .ref (xm_phi b x)) hx hb (hr.trans h2) (Or.inl ⟨_, rfl⟩) (Or.inr ⟨_, rfl⟩) hend hJ.2.2.2.2 hdg
        · rcases hk2 with rfl | ⟨x, rfl⟩
          · exact W.aret (v := .null) hx hb (hr.trans h2) (Or.inr ⟨_, rfl⟩) (Or.inl rfl) hend hJ.2.2.2.2 hdg
          · exact W.aret (v := .ref (xm_phi b x)) hx hb (hr.trans h2) (Or.inr ⟨_, rfl⟩) (Or.inr ⟨_, rfl⟩) hend hJ.2.2.2.2 hdg
      · omega
    · rcases hrt with ⟨h1, h2⟩ | ⟨h1, h2⟩ | ⟨h1, h2⟩ | ⟨h1, h2⟩ | ⟨h1, h2⟩
      · omega
      · omega
      · exact W.vret hx hb (hr.trans h2) hend hJ.2.2.2.2 hdg
      · omega
      · omega
  · intro pc x q w' H locs cells slots ls rest ce hJ hce hcv hcl
    refine ⟨fun _ hQX hc hs => ?_, fun h hh => by simp [xm_hnd] at hh⟩
    exact vz_out (fun x hx => (htab x hx).elim) hlocks hce hcv hcl (fun t ht hW => ⟨x, q, w', rfl, rfl, hQX, by rw [ht]; exact hJ.1, hJ.2.1, hJ.2.2.F ht⟩) hJ.2.2.2.2 hc hs

set_option maxRecDepth 100000
section VXD
variable {p : Program} {l : Launch} {e : Env} {R : Room} {s : State} {m : MethodId} {args : Array Value} {below : List Frame} {meth : Method} {c : Code} {H : Heap} {locs : List Loc} {cells slots : Nat}
theorem vx_callVD {T : State} {locs : List Loc} {cells slots : Nat} (X : Stand p l e R s m args below meth c T locs cells slots) (hexec : p.tables.exec = Jvm.exec) {own C owner : String} {index : Nat} {x y : MethodName} {bytes : ByteArray} {maxL : Nat} {ret : Option FieldType}
    (hown : s.vm.findClass own = some m.cls) (hlink : (Cond.methodLink own index x).before args s = true) (hsame : (Cond.sameMethod x.cls owner x.name x.desc).before args s = true)
    (hd0 : va_Decl s ⟨owner, x.name, x.desc⟩) (howner : owner ≠ "java/lang/invoke/MethodHandle" ∧ owner ≠ "java/lang/invoke/VarHandle")
    (hsel : (Cond.landsInDefault C x y).before args s = true) (hinst : (Cond.instanceMethod y).before args s = true) (hcode : (Cond.code y bytes maxL ret).before args s = true)
    {W : Nat} {Pre : Pt → Array Value → Prop} {Post : Pt → Array Value → Option Value → Pt → Prop} {PostX : Pt → Array Value → Addr → Pt → Prop} (hK : vx_Back l R p e below s args y 3 W Pre Post PostX)
    {b : Addr} {cellB : Cell} (hcell : T.heap[b]? = some cellB) (hobj : cellB.vm.isStatics = false) (hcls : s.vm.findClass C = some cellB.cls)
    {g : JFrame} (hg : g.method = m) (hsize : g.locals.size = c.maxLocals) {argsL rest : List Value} (hlen : ∀ sig, parseMethodDescriptor x.desc = some sig → argsL.length = sig.parameters.length)
    (hstack : g.stack = argsL.reverse ++ .ref b :: rest) (hW : 2 * g.monitorRoom + (rest.map fun v => v.category).sum ≤ W) (hdg : decode c.code g.pc = .ok (.invokevirtual index, 3))
    (hpre : ∀ vm₁, s.WarmedH vm₁ → Pre ⟨T.setVm vm₁, locs, cells, slots⟩ (Value.ref b :: argsL).toArray) :
    (∃ (v : Option Value) (vm₁ : Vm) (B : Pt), s.WarmedH vm₁ ∧ Stand p l e R s m args below meth c B.U B.locs B.cells B.slots ∧ Post ⟨T.setVm vm₁, locs, cells, slots⟩ (Value.ref b :: argsL).toArray v B ∧
      ∀ target, Steps p.tables e below (B.U.setTop { g with pc := g.pc + 3, stack := v.toList ++ rest }) target → Steps p.tables e below (T.setTop g) target) ∨
    (∃ (q : Addr) (vm₁ : Vm) (B : Pt), s.WarmedH vm₁ ∧ Stand p l e R s m args below meth c B.U B.locs B.cells B.slots ∧ PostX ⟨T.setVm vm₁, locs, cells, slots⟩ (Value.ref b :: argsL).toArray q B ∧
      Steps p.tables e below (T.setTop g) ((B.U.setTop { g with stack := rest }).pushFrame (.throwing q))) := by
  obtain ⟨r0, r, hn, hrm, hstR, hsigR⟩ := hd0
  obtain ⟨cn, ck, r1, hcn, hck, hni, hf, hn1⟩ := Cond.sameMethod_found hsame
  cases hn.symm.trans hn1
  obtain ⟨mk, methM, hnamed, hmethM, -, habM⟩ := Cond.instanceMethod_spec hinst
  obtain ⟨c2, r2, m2, rm9, q1, q2, q3, q5, q4, ⟨kP, hkP, hkPi⟩, -, q7⟩ := Cond.landsInDefault_spec hsel
  cases hcls.symm.trans q1
  cases hf.symm.trans q2
  cases hnamed.symm.trans q3
  cases hrm.symm.trans q5
  have hselP : selectMethod e.platform s.vm cellB.cls r0 = .method mk := by rw [Launch.admits_selectMethod X.admits]; exact q4
  obtain ⟨vm₁, X₁, hstep₁⟩ := X.invokevirtualUpD hexec hown hlink hsame howner hn hrm hstR (a := b) (cell := cellB) hcell
    (fun z h => by rw [h] at hobj; cases hobj) hselP hmethM habM hkP hkPi q7 (g := g) hg (argsL := argsL) (rest := rest) (hlen _ hsigR) hstack hdg
  rcases hK m meth c ⟨T.setVm vm₁, locs, cells, slots⟩ { g with stack := rest } (.invokevirtual index) mk (Value.ref b :: argsL).toArray X₁ hg hsize hdg hW (X₁.named hnamed) (hpre vm₁ X₁.warmed) with ⟨v, B, X', hpost, hsteps⟩ | ⟨q, B, X', hpost, hsteps⟩
  · exact Or.inl ⟨v, vm₁, B, X₁.warmed, X', hpost, fun target h => hstep₁ _ fun acts => by rw [doInvoke_state]; exact hsteps.trans h⟩
  · exact Or.inr ⟨q, vm₁, B, X₁.warmed, X', hpost, hstep₁ _ fun acts => by rw [doInvoke_state]; exact hsteps⟩
theorem vx_runD {x y : MethodName} {bytes cc : ByteArray} {maxL nL mc ms n index : Nat} {ret : Option FieldType} {ws : List Cond} {rm : Room} {Pc : Array Value → State → Prop} {Qc : Array Value → State → Outcome → State → Prop} {XC : String → Addr → State → State → Prop} {free : Addr → Prop} {Ts : List Cond} {own C owner : String} {b : Addr} {As rest : List Value} {g : JFrame}
    (S : CallFix p m c cc nL s args Ts own) (hM : vx_Met l y ws rm Pc Qc XC mc ms free) (hbk : rm.cells = mc ∧ rm.slots = ms ∧ rm.frames + 1 ≤ R.frames ∧ 8 + (maxL + 11) + rm.locals ≤ R.locals ∧ (∀ w ∈ ws, ∀ (a' : Array Value) (U : State), s.WarmedH U.vm → w.before a' U = true) ∧ Cond.code y bytes maxL ret ∈ ws) (hcode : (Cond.code y bytes maxL ret).before args s = true) (hini : (Cond.initialized y.cls).before args s = true) (hnm : owner ≠ "java/lang/invoke/MethodHandle" ∧ owner ≠ "java/lang/invoke/VarHandle") (hln : ∀ sig, parseMethodDescriptor x.desc = some sig → n = sig.parameters.length) (hlk : (Cond.methodLink own index x).before args s = true) (hsm : (Cond.sameMethod x.cls owner x.name x.desc).before args s = true) (hdc : va_Decl s ⟨owner, x.name, x.desc⟩) (hsl : (Cond.landsInDefault C x y).before args s = true) (hin : (Cond.instanceMethod y).before args s = true) (hp : PreV s H C b Pc As)
    (hg : g.method = m) (hn : As.length = n) (hsize : g.locals.size = nL) (hstack : g.stack = As.reverse ++ .ref b :: rest) (hW : 2 * g.monitorRoom + (rest.map fun v => v.category).sum ≤ 8) (hdg : decode cc g.pc = .ok (.invokevirtual index, 3)) (hf : cells + mc ≤ R.cells ∧ slots + ms ≤ R.slots) :
    vx_Run p l e R s m args below meth c H locs cells slots mc ms g rest (Qc (Value.ref b :: As).toArray) XC free := by
  obtain ⟨hrc, hrs, hfr, hlo, hws, hcw⟩ := hbk
  have hK : vx_Back l R p e below s args y 3 8 (PreOf R mc ms Pc) (PostOf Qc mc ms free) (vx_Post XC mc ms free) := vx_back (bytes := bytes) (maxL := maxL) (ret := ret) hM hp.1 hrc hrs hfr hlo hws hcw (fun a' U hW => word_at hW (Or.inl (by first | rfl | simp [Cond.onTables, Cond.keeps, Cond.steady])) hini)
  obtain ⟨hx, hb, hml, ho, -⟩ := S
  obtain ⟨-, ⟨cellB, hcB, hoB, hclB⟩, hPc⟩ := hp
  intro T hT X
  rcases vx_callVD X hx (C := C) (owner := owner) (bytes := bytes) (maxL := maxL) (ret := ret) ho hlk hsm hdc hnm hsl hin hcode hK (by rw [hT]; exact hcB) hoB hclB hg (hsize.trans hml.symm) (argsL := As) (rest := rest) (fun sig h => hn.trans (hln sig h)) hstack hW (by rw [hb]; exact hdg)
    (fun vm₁ hW₁ => ⟨hf.1, hf.2, hPc (T.setVm vm₁) hT hW₁⟩) with ⟨v, vm₁, ⟨U', l2, c2, s2⟩, hW₁, X', ⟨g', mk, t, L, e1, e2, hq, h1, hL, h2, h3⟩, st⟩ | ⟨q, vm₁, ⟨U', l2, c2, s2⟩, hW₁, X', ⟨g', mk, t, L, E, ce, e1, e2, hq, hce, hcv, hcl, h1, hL, h2, h3⟩, st⟩
  · dsimp only [Pt.U, Pt.locs, Pt.cells, Pt.slots] at X' e1 e2 h1 h2 h3 st
    subst h1; subst h2; subst h3
    exact Or.inl ⟨v, (T.setVm vm₁).calling g' mk (Value.ref b :: As).toArray, t, U', L, hT, X', hL, e1, e2, hq, st⟩
  · dsimp only [Pt.U, Pt.locs, Pt.cells, Pt.slots] at X' e1 e2 h1 h2 h3 st hcl
    subst h1; subst h2; subst h3
    exact Or.inr ⟨q, (T.setVm vm₁).calling g' mk (Value.ref b :: As).toArray, t, U', L, E, ce, hT, X', hL, e1, e2, hq, hce, hcv, vx_cls hW₁ hcl, st⟩
end VXD
theorem lw_F {own : String} {idx : Nat} {C : String} {x y : MethodName} {b : ByteArray} {L : Nat} {r : Option FieldType} (h1 : Cond.methodLink own idx x ∈ lw_all) (h2 : Cond.selects C x y ∈ lw_all) (h3 : Cond.instanceMethod y ∈ lw_all) (h4 : Cond.initialized y.cls ∈ lw_all) (h5 : Cond.code y b L r ∈ lw_all) : GoodIn lw_all (va_wsF own idx C x y (ws_ y b L r)) := by
  refine lw_app ?_ (lw_meth h5)
  intro w hw
  simp only [List.mem_cons, List.not_mem_nil, or_false] at hw
  rcases hw with e | e | e | e <;> rw [e] <;> assumption
theorem lw_U {own : String} {idx : Nat} {C owner : String} {x y : MethodName} {b : ByteArray} {L : Nat} {r : Option FieldType} (h1 : Cond.methodLink own idx x ∈ lw_all) (h0 : Cond.sameMethod x.cls owner x.name x.desc ∈ lw_all) (h2 : Cond.selects C x y ∈ lw_all) (h3 : Cond.instanceMethod y ∈ lw_all) (h4 : Cond.initialized y.cls ∈ lw_all) (h5 : Cond.code y b L r ∈ lw_all) : GoodIn lw_all (va_wsU own idx C owner x y (ws_ y b L r)) := by
  refine lw_app ?_ (lw_meth h5)
  intro w hw
  simp only [List.mem_cons, List.not_mem_nil, or_false] at hw
  rcases hw with e | e | e | e | e <;> rw [e] <;> assumption
theorem lw_SU {own : String} {idx : Nat} {y : MethodName} {b : ByteArray} {L : Nat} {r : Option FieldType} (h1 : Cond.methodLink own idx y ∈ lw_all) (h0 : Cond.sameMethod y.cls y.cls y.name y.desc ∈ lw_all) (h2 : Cond.superclass own y.cls ∈ lw_all) (h3 : Cond.instanceMethod y ∈ lw_all) (h4 : Cond.initialized y.cls ∈ lw_all) (h5 : Cond.code y b L r ∈ lw_all) : GoodIn lw_all (va_wsSU own idx y (ws_ y b L r)) := by
  refine lw_app ?_ (lw_meth h5)
  intro w hw
  simp only [List.mem_cons, List.not_mem_nil, or_false] at hw
  rcases hw with e | e | e | e | e <;> rw [e] <;> assumption
section ND76
variable {g : nd_G} {mm : nd_Mt} {d mc ms : Nat} {K : nd_K} {X : nd_X} {pc : Nat} {lv : List (Option Value)} {st : List Value} {h : nd_H} {cs ss : Nat}
theorem nd_Fw (hg : nd_OK g) {C : String} {x y : MethodName} (h1 : Cond.declares x ∈ lw_tbl) (h2 : Cond.interfaceMethod x.cls x.cls x.name x.desc ∈ lw_tbl) (h3 : Cond.publicMethod y ∈ lw_tbl) (h4 : Cond.unhidden C x.name x.desc ∈ lw_tbl) (h5 : Cond.castable C x.cls ∈ lw_tbl) : va_Fw C x y (nd_s g) := by
  obtain ⟨b0, hw0, -⟩ := hg.2.2.1
  exact va_Fw.of (hw0 _ h1) (hw0 _ h2) (hw0 _ h3) (hw0 _ h4) (hw0 _ h5)
theorem nd_dec (hC : nd_Cx g mm X) {x : MethodName} (h1 : Cond.declares x ∈ lw_tbl) : va_Nw (.declares x) X.2.2.1 := va_Nw.of rfl (nd_face hC h1 rfl rfl)
/-- a sum's 'kept' -/
theorem nd_callD (hC : nd_Cx g mm X) {mm2 : nd_Mt} {n d2 : Nat} {As rest : List Value} {b : Nat} (hmm : mm2 = mX41_kept) (hown : mm.1.cls = "NapkinDeeds$Two") {C : String} {ci : Nat} {fs : List Value} {T : u_T} {N : Nat} (hld : va_Nw (nd_ld C) X.2.2.1) (hb : h[b]? = some (.inr (ci, fs))) (hc : nd_cl[ci]? = some (C, T, N)) (hdep : d2 + 1 ≤ d) (hn : As.length = 1) (hrest : (rest.map nd_cn).sum ≤ 8) (hcs : cs ≤ mc) (hss : ss ≤ ms) (hd : decode mm.2.1 pc = .ok (.invokevirtual 26, 3)) (hst : st = As.reverse ++ .ref b :: rest) (hM : nd_M g mm2 d2 0 0 (.ref b :: As) h (nd_Kc g mm d mc ms K X pc 3 lv rest cs ss)) : nd_W g mm d mc ms K X pc lv st h cs ss := by
  subst hmm
  intro H ls locs hl hR hS
  subst hst
  have hdw := hC.amb.2.2.2.2
  have hml : (Cond.methodLink mm.1.cls 26 ⟨"NapkinDeeds$Two", "kept", "(J)I"⟩).before X.2.2.2.2.1 X.2.2.1 = true := by
    rw [hown]
    exact va_Nw.use rfl hdw.1
  have hsl : (nd_ld C).before X.2.2.2.2.1 X.2.2.1 = true := hld
  have hroom := nd_roomR (d := d) (d' := d2) (L := 3) (mc := mc) (ms := ms) (mc' := 0) (ms' := 0) hdep (by omega)
  refine nd_go3 (a9 := ((.ref b :: As).map (nd_v g)).toArray) (mc' := 0) (ms' := 0) (st := rest) hl hS ?_
  exact vx_runD (As := As.map (nd_v g)) (owner := "NapkinDeeds$Sum") (x := ⟨"NapkinDeeds$Two", "kept", "(J)I"⟩) (n := 1) (nd_fix hC) hM ⟨rfl, rfl, hroom.1, hroom.2, pay_in hC.hts (lw_meth q564), List.mem_cons_self⟩ (hC.hts _ q564) (hC.hts _ q3497) ⟨by decide, by decide⟩ (fun sig hsig => by
      have h9 : (parseMethodDescriptor "(J)I").map (fun d => d.parameters.length) = some 1 := by decide +kernel
      rw [hsig] at h9
      exact (Option.some.inj h9).symm) hml (va_Nw.use rfl hdw.2.1) (va_Decl.abs (nd_dec hC q558)) hsl (hC.hts _ q562) (nd_preV hC hR hb hc) rfl (by rw [List.length_map]; exact hn) (by rw [hl.1]) (by show List.map (nd_v g) _ = _; rw [List.map_append, List.map_reverse]; try rfl) (lv_room (by rw [nd_cn_sum hC.ok]; exact hrest)) hd ⟨hcs, hss⟩
end ND76
theorem lgX10_of {g : nd_G} (hg : nd_OK g) : va_Fw RX10 ⟨"NapkinDeeds$Sum", "of", "(LNapkinDeeds$Case;)I"⟩ mX10_of.1 (nd_s g) := nd_Fw hg q518 q517 q531 q529 q527
theorem lgX11_of {g : nd_G} (hg : nd_OK g) : va_Fw RX11 ⟨"NapkinDeeds$Sum", "of", "(LNapkinDeeds$Case;)I"⟩ mX11_of.1 (nd_s g) := nd_Fw hg q518 q517 q543 q541 q539
theorem lgX13_of {g : nd_G} (hg : nd_OK g) : va_Fw RX13 ⟨"NapkinDeeds$Sum", "of", "(LNapkinDeeds$Case;)I"⟩ mX12_of.1 (nd_s g) := nd_Fw hg q518 q517 q523 q538 q536
theorem lgX14_of {g : nd_G} (hg : nd_OK g) : va_Fw RX14 ⟨"NapkinDeeds$Sum", "of", "(LNapkinDeeds$Case;)I"⟩ mX12_of.1 (nd_s g) := nd_Fw hg q518 q517 q523 q535 q533
theorem lgX15_of {g : nd_G} (hg : nd_OK g) : va_Fw RX15 ⟨"NapkinDeeds$Sum", "of", "(LNapkinDeeds$Case;)I"⟩ mX12_of.1 (nd_s g) := nd_Fw hg q518 q517 q523 q521 q519
theorem lgX16_holds {g : nd_G} (hg : nd_OK g) : va_Fw RX16 ⟨"NapkinDeeds$Truth", "holds", "(LNapkinDeeds$Case;)Z"⟩ mX16_holds.1 (nd_s g) := nd_Fw hg q584 q583 q613 q611 q609
theorem lgX17_holds {g : nd_G} (hg : nd_OK g) : va_Fw RX17 ⟨"NapkinDeeds$Truth", "holds", "(LNapkinDeeds$Case;)Z"⟩ mX17_holds.1 (nd_s g) := nd_Fw hg q584 q583 q597 q595 q593
theorem lgX18_holds {g : nd_G} (hg : nd_OK g) : va_Fw RX18 ⟨"NapkinDeeds$Truth", "holds", "(LNapkinDeeds$Case;)Z"⟩ mX18_holds.1 (nd_s g) := nd_Fw hg q584 q583 q589 q587 q585
theorem lgX19_holds {g : nd_G} (hg : nd_OK g) : va_Fw RX19 ⟨"NapkinDeeds$Truth", "holds", "(LNapkinDeeds$Case;)Z"⟩ mX19_holds.1 (nd_s g) := nd_Fw hg q584 q583 q605 q603 q601
theorem lfX1_247_X10 : GoodIn lw_all (va_wsF RX1 247 RX10 ⟨"NapkinDeeds$Sum", "of", "(LNapkinDeeds$Case;)I"⟩ mX10_of.1 (ws_ mX10_of.1 mX10_of.2.1 mX10_of.2.2.1 mX10_of.2.2.2.1)) := lw_F q516 q528 q530 q177 q532
theorem lfX1_247_X11 : GoodIn lw_all (va_wsF RX1 247 RX11 ⟨"NapkinDeeds$Sum", "of", "(LNapkinDeeds$Case;)I"⟩ mX11_of.1 (ws_ mX11_of.1 mX11_of.2.1 mX11_of.2.2.1 mX11_of.2.2.2.1)) := lw_F q516 q540 q542 q178 q544
theorem lfX1_247_X13 : GoodIn lw_all (va_wsF RX1 247 RX13 ⟨"NapkinDeeds$Sum", "of", "(LNapkinDeeds$Case;)I"⟩ mX12_of.1 (ws_ mX12_of.1 mX12_of.2.1 mX12_of.2.2.1 mX12_of.2.2.2.1)) := lw_F q516 q537 q522 q179 q524
theorem lfX1_247_X14 : GoodIn lw_all (va_wsF RX1 247 RX14 ⟨"NapkinDeeds$Sum", "of", "(LNapkinDeeds$Case;)I"⟩ mX12_of.1 (ws_ mX12_of.1 mX12_of.2.1 mX12_of.2.2.1 mX12_of.2.2.2.1)) := lw_F q516 q534 q522 q179 q524
theorem lfX1_247_X15 : GoodIn lw_all (va_wsF RX1 247 RX15 ⟨"NapkinDeeds$Sum", "of", "(LNapkinDeeds$Case;)I"⟩ mX12_of.1 (ws_ mX12_of.1 mX12_of.2.1 mX12_of.2.2.1 mX12_of.2.2.2.1)) := lw_F q516 q520 q522 q179 q524
theorem lfX12_16_X10 : GoodIn lw_all (va_wsF RX12 16 RX10 ⟨"NapkinDeeds$Sum", "of", "(LNapkinDeeds$Case;)I"⟩ mX10_of.1 (ws_ mX10_of.1 mX10_of.2.1 mX10_of.2.2.1 mX10_of.2.2.2.1)) := lw_F q526 q528 q530 q177 q532
theorem lfX12_16_X11 : GoodIn lw_all (va_wsF RX12 16 RX11 ⟨"NapkinDeeds$Sum", "of", "(LNapkinDeeds$Case;)I"⟩ mX11_of.1 (ws_ mX11_of.1 mX11_of.2.1 mX11_of.2.2.1 mX11_of.2.2.2.1)) := lw_F q526 q540 q542 q178 q544
theorem lfX12_16_X13 : GoodIn lw_all (va_wsF RX12 16 RX13 ⟨"NapkinDeeds$Sum", "of", "(LNapkinDeeds$Case;)I"⟩ mX12_of.1 (ws_ mX12_of.1 mX12_of.2.1 mX12_of.2.2.1 mX12_of.2.2.2.1)) := lw_F q526 q537 q522 q179 q524
theorem lfX12_16_X14 : GoodIn lw_all (va_wsF RX12 16 RX14 ⟨"NapkinDeeds$Sum", "of", "(LNapkinDeeds$Case;)I"⟩ mX12_of.1 (ws_ mX12_of.1 mX12_of.2.1 mX12_of.2.2.1 mX12_of.2.2.2.1)) := lw_F q526 q534 q522 q179 q524
theorem lfX12_16_X15 : GoodIn lw_all (va_wsF RX12 16 RX15 ⟨"NapkinDeeds$Sum", "of", "(LNapkinDeeds$Case;)I"⟩ mX12_of.1 (ws_ mX12_of.1 mX12_of.2.1 mX12_of.2.2.1 mX12_of.2.2.2.1)) := lw_F q526 q520 q522 q179 q524
theorem lfX17_20_X10 : GoodIn lw_all (va_wsF RX17 20 RX10 ⟨"NapkinDeeds$Sum", "of", "(LNapkinDeeds$Case;)I"⟩ mX10_of.1 (ws_ mX10_of.1 mX10_of.2.1 mX10_of.2.2.1 mX10_of.2.2.2.1)) := lw_F q600 q528 q530 q177 q532
theorem lfX17_20_X11 : GoodIn lw_all (va_wsF RX17 20 RX11 ⟨"NapkinDeeds$Sum", "of", "(LNapkinDeeds$Case;)I"⟩ mX11_of.1 (ws_ mX11_of.1 mX11_of.2.1 mX11_of.2.2.1 mX11_of.2.2.2.1)) := lw_F q600 q540 q542 q178 q544
theorem lfX17_20_X13 : GoodIn lw_all (va_wsF RX17 20 RX13 ⟨"NapkinDeeds$Sum", "of", "(LNapkinDeeds$Case;)I"⟩ mX12_of.1 (ws_ mX12_of.1 mX12_of.2.1 mX12_of.2.2.1 mX12_of.2.2.2.1)) := lw_F q600 q537 q522 q179 q524
theorem lfX17_20_X14 : GoodIn lw_all (va_wsF RX17 20 RX14 ⟨"NapkinDeeds$Sum", "of", "(LNapkinDeeds$Case;)I"⟩ mX12_of.1 (ws_ mX12_of.1 mX12_of.2.1 mX12_of.2.2.1 mX12_of.2.2.2.1)) := lw_F q600 q534 q522 q179 q524
theorem lfX17_20_X15 : GoodIn lw_all (va_wsF RX17 20 RX15 ⟨"NapkinDeeds$Sum", "of", "(LNapkinDeeds$Case;)I"⟩ mX12_of.1 (ws_ mX12_of.1 mX12_of.2.1 mX12_of.2.2.1 mX12_of.2.2.2.1)) := lw_F q600 q520 q522 q179 q524
theorem lfX1_257_X16 : GoodIn lw_all (va_wsF RX1 257 RX16 ⟨"NapkinDeeds$Truth", "holds", "(LNapkinDeeds$Case;)Z"⟩ mX16_holds.1 (ws_ mX16_holds.1 mX16_holds.2.1 mX16_holds.2.2.1 mX16_holds.2.2.2.1)) := lw_F q582 q610 q612 q183 q614
theorem lfX1_257_X17 : GoodIn lw_all (va_wsF RX1 257 RX17 ⟨"NapkinDeeds$Truth", "holds", "(LNapkinDeeds$Case;)Z"⟩ mX17_holds.1 (ws_ mX17_holds.1 mX17_holds.2.1 mX17_holds.2.2.1 mX17_holds.2.2.2.1)) := lw_F q582 q594 q596 q184 q598
theorem lfX1_257_X18 : GoodIn lw_all (va_wsF RX1 257 RX18 ⟨"NapkinDeeds$Truth", "holds", "(LNapkinDeeds$Case;)Z"⟩ mX18_holds.1 (ws_ mX18_holds.1 mX18_holds.2.1 mX18_holds.2.2.1 mX18_holds.2.2.2.1)) := lw_F q582 q586 q588 q185 q590
theorem lfX1_257_X19 : GoodIn lw_all (va_wsF RX1 257 RX19 ⟨"NapkinDeeds$Truth", "holds", "(LNapkinDeeds$Case;)Z"⟩ mX19_holds.1 (ws_ mX19_holds.1 mX19_holds.2.1 mX19_holds.2.2.1 mX19_holds.2.2.2.1)) := lw_F q582 q602 q604 q186 q606
theorem lfX18_16_X16 : GoodIn lw_all (va_wsF RX18 16 RX16 ⟨"NapkinDeeds$Truth", "holds", "(LNapkinDeeds$Case;)Z"⟩ mX16_holds.1 (ws_ mX16_holds.1 mX16_holds.2.1 mX16_holds.2.2.1 mX16_holds.2.2.2.1)) := lw_F q592 q610 q612 q183 q614
theorem lfX18_16_X17 : GoodIn lw_all (va_wsF RX18 16 RX17 ⟨"NapkinDeeds$Truth", "holds", "(LNapkinDeeds$Case;)Z"⟩ mX17_holds.1 (ws_ mX17_holds.1 mX17_holds.2.1 mX17_holds.2.2.1 mX17_holds.2.2.2.1)) := lw_F q592 q594 q596 q184 q598
theorem lfX18_16_X18 : GoodIn lw_all (va_wsF RX18 16 RX18 ⟨"NapkinDeeds$Truth", "holds", "(LNapkinDeeds$Case;)Z"⟩ mX18_holds.1 (ws_ mX18_holds.1 mX18_holds.2.1 mX18_holds.2.2.1 mX18_holds.2.2.2.1)) := lw_F q592 q586 q588 q185 q590
theorem lfX18_16_X19 : GoodIn lw_all (va_wsF RX18 16 RX19 ⟨"NapkinDeeds$Truth", "holds", "(LNapkinDeeds$Case;)Z"⟩ mX19_holds.1 (ws_ mX19_holds.1 mX19_holds.2.1 mX19_holds.2.2.1 mX19_holds.2.2.2.1)) := lw_F q592 q602 q604 q186 q606
theorem lfX16_13_X16 : GoodIn lw_all (va_wsF RX16 13 RX16 ⟨"NapkinDeeds$Truth", "holds", "(LNapkinDeeds$Case;)Z"⟩ mX16_holds.1 (ws_ mX16_holds.1 mX16_holds.2.1 mX16_holds.2.2.1 mX16_holds.2.2.2.1)) := lw_F q616 q610 q612 q183 q614
theorem lfX16_13_X17 : GoodIn lw_all (va_wsF RX16 13 RX17 ⟨"NapkinDeeds$Truth", "holds", "(LNapkinDeeds$Case;)Z"⟩ mX17_holds.1 (ws_ mX17_holds.1 mX17_holds.2.1 mX17_holds.2.2.1 mX17_holds.2.2.2.1)) := lw_F q616 q594 q596 q184 q598
theorem lfX16_13_X18 : GoodIn lw_all (va_wsF RX16 13 RX18 ⟨"NapkinDeeds$Truth", "holds", "(LNapkinDeeds$Case;)Z"⟩ mX18_holds.1 (ws_ mX18_holds.1 mX18_holds.2.1 mX18_holds.2.2.1 mX18_holds.2.2.2.1)) := lw_F q616 q586 q588 q185 q590
theorem lfX16_13_X19 : GoodIn lw_all (va_wsF RX16 13 RX19 ⟨"NapkinDeeds$Truth", "holds", "(LNapkinDeeds$Case;)Z"⟩ mX19_holds.1 (ws_ mX19_holds.1 mX19_holds.2.1 mX19_holds.2.2.1 mX19_holds.2.2.2.1)) := lw_F q616 q602 q604 q186 q606
/-- the contract of Sum.of at a, whatever its class -/
def ev_M (g : nd_G) (h : nd_H) (a d : Nat) (K : nd_K) : Prop := (∃ fs, h[a]? = some (.inr (nX10, fs)) ∧ nd_M g mX10_of d 0 0 [.ref a, .ref 93] h K) ∨ (∃ fs, h[a]? = some (.inr (nX11, fs)) ∧ nd_M g mX11_of d 0 0 [.ref a, .ref 93] h K) ∨ ∃ ci fs, (ci = nX13 ∨ ci = nX14 ∨ ci = nX15) ∧ h[a]? = some (.inr (ci, fs)) ∧ nd_M g mX12_of d 0 0 [.ref a, .ref 93] h K
def et_M (g : nd_G) (h : nd_H) (a d : Nat) (K : nd_K) : Prop := (∃ fs, h[a]? = some (.inr (nX16, fs)) ∧ nd_M g mX16_holds d 0 0 [.ref a, .ref 93] h K) ∨ (∃ fs, h[a]? = some (.inr (nX17, fs)) ∧ nd_M g mX17_holds d 0 0 [.ref a, .ref 93] h K) ∨ (∃ fs, h[a]? = some (.inr (nX18, fs)) ∧ nd_M g mX18_holds d 0 0 [.ref a, .ref 93] h K) ∨ ∃ fs, h[a]? = some (.inr (nX19, fs)) ∧ nd_M g mX19_holds d 0 0 [.ref a, .ref 93] h K
section EVS
variable {g : nd_G} {mm : nd_Mt} {d mc ms : Nat} {K : nd_K} {X : nd_X} {pc : Nat} {lv : List (Option Value)} {st : List Value} {h : nd_H} {cs ss : Nat}
theorem ev_callX1 (hC : nd_Cx g mm X) (hown : mm.1.cls = "NapkinDeeds") {a count : Nat} (hdep : 1 ≤ d) (hrest : (st.map nd_cn).sum ≤ 8) (hcs : cs ≤ mc) (hss : ss ≤ ms) (hd : decode mm.2.1 pc = .ok (.invokeinterface 247 count, 5)) (hE : ev_M g h a (d - 1) (nd_Kc g mm d mc ms K X pc 5 lv st cs ss)) : nd_W g mm d mc ms K X pc lv (.ref 93 :: .ref a :: st) h cs ss := by
  rcases hE with ⟨fs, hb, hM⟩ | ⟨fs, hb, hM⟩ | ⟨ci, fs, hci, hb, hM⟩
  · exact nd_callF (mm2 := mX10_of) (As := [.ref 93]) (mc2 := 0) (ms2 := 0) (d2 := d - 1) (x := ⟨"NapkinDeeds$Sum", "of", "(LNapkinDeeds$Case;)I"⟩) hC rfl (by rw [hown]; exact lfX1_247_X10) (lgX10_of hC.ok) ⟨by decide, by decide, by decide +kernel⟩ hb rfl (by decide) (by omega) rfl hrest hcs hss hd rfl hM
  · exact nd_callF (mm2 := mX11_of) (As := [.ref 93]) (mc2 := 0) (ms2 := 0) (d2 := d - 1) (x := ⟨"NapkinDeeds$Sum", "of", "(LNapkinDeeds$Case;)I"⟩) hC rfl (by rw [hown]; exact lfX1_247_X11) (lgX11_of hC.ok) ⟨by decide, by decide, by decide +kernel⟩ hb rfl (by decide) (by omega) rfl hrest hcs hss hd rfl hM
  · rcases hci with rfl | rfl | rfl
    · exact nd_callF (mm2 := mX12_of) (As := [.ref 93]) (mc2 := 0) (ms2 := 0) (d2 := d - 1) (x := ⟨"NapkinDeeds$Sum", "of", "(LNapkinDeeds$Case;)I"⟩) hC rfl (by rw [hown]; exact lfX1_247_X13) (lgX13_of hC.ok) ⟨by decide, by decide, by decide +kernel⟩ hb rfl (by decide) (by omega) rfl hrest hcs hss hd rfl hM
    · exact nd_callF (mm2 := mX12_of) (As := [.ref 93]) (mc2 := 0) (ms2 := 0) (d2 := d - 1) (x := ⟨"NapkinDeeds$Sum", "of", "(LNapkinDeeds$Case;)I"⟩) hC rfl (by rw [hown]; exact lfX1_247_X14) (lgX14_of hC.ok) ⟨by decide, by decide, by decide +kernel⟩ hb rfl (by decide) (by omega) rfl hrest hcs hss hd rfl hM
    · exact nd_callF (mm2 := mX12_of) (As := [.ref 93]) (mc2 := 0) (ms2 := 0) (d2 := d - 1) (x := ⟨"NapkinDeeds$Sum", "of", "(LNapkinDeeds$Case;)I"⟩) hC rfl (by rw [hown]; exact lfX1_247_X15) (lgX15_of hC.ok) ⟨by decide, by decide, by decide +kernel⟩ hb rfl (by decide) (by omega) rfl hrest hcs hss hd rfl hM
theorem ev_callX12 (hC : nd_Cx g mm X) (hown : mm.1.cls = "NapkinDeeds$Two") {a count : Nat} (hdep : 1 ≤ d) (hrest : (st.map nd_cn).sum ≤ 8) (hcs : cs ≤ mc) (hss : ss ≤ ms) (hd : decode mm.2.1 pc = .ok (.invokeinterface 16 count, 5)) (hE : ev_M g h a (d - 1) (nd_Kc g mm d mc ms K X pc 5 lv st cs ss)) : nd_W g mm d mc ms K X pc lv (.ref 93 :: .ref a :: st) h cs ss := by
  rcases hE with ⟨fs, hb, hM⟩ | ⟨fs, hb, hM⟩ | ⟨ci, fs, hci, hb, hM⟩
  · exact nd_callF (mm2 := mX10_of) (As := [.ref 93]) (mc2 := 0) (ms2 := 0) (d2 := d - 1) (x := ⟨"NapkinDeeds$Sum", "of", "(LNapkinDeeds$Case;)I"⟩) hC rfl (by rw [hown]; exact lfX12_16_X10) (lgX10_of hC.ok) ⟨by decide, by decide, by decide +kernel⟩ hb rfl (by decide) (by omega) rfl hrest hcs hss hd rfl hM
  · exact nd_callF (mm2 := mX11_of) (As := [.ref 93]) (mc2 := 0) (ms2 := 0) (d2 := d - 1) (x := ⟨"NapkinDeeds$Sum", "of", "(LNapkinDeeds$Case;)I"⟩) hC rfl (by rw [hown]; exact lfX12_16_X11) (lgX11_of hC.ok) ⟨by decide, by decide, by decide +kernel⟩ hb rfl (by decide) (by omega) rfl hrest hcs hss hd rfl hM
  · rcases hci with rfl | rfl | rfl
    · exact nd_callF (mm2 := mX12_of) (As := [.ref 93]) (mc2 := 0) (ms2 := 0) (d2 := d - 1) (x := ⟨"NapkinDeeds$Sum", "of", "(LNapkinDeeds$Case;)I"⟩) hC rfl (by rw [hown]; exact lfX12_16_X13) (lgX13_of hC.ok) ⟨by decide, by decide, by decide +kernel⟩ hb rfl (by decide) (by omega) rfl hrest hcs hss hd rfl hM
    · exact nd_callF (mm2 := mX12_of) (As := [.ref 93]) (mc2 := 0) (ms2 := 0) (d2 := d - 1) (x := ⟨"NapkinDeeds$Sum", "of", "(LNapkinDeeds$Case;)I"⟩) hC rfl (by rw [hown]; exact lfX12_16_X14) (lgX14_of hC.ok) ⟨by decide, by decide, by decide +kernel⟩ hb rfl (by decide) (by omega) rfl hrest hcs hss hd rfl hM
    · exact nd_callF (mm2 := mX12_of) (As := [.ref 93]) (mc2 := 0) (ms2 := 0) (d2 := d - 1) (x := ⟨"NapkinDeeds$Sum", "of", "(LNapkinDeeds$Case;)I"⟩) hC rfl (by rw [hown]; exact lfX12_16_X15) (lgX15_of hC.ok) ⟨by decide, by decide, by decide +kernel⟩ hb rfl (by decide) (by omega) rfl hrest hcs hss hd rfl hM
theorem ev_callX17 (hC : nd_Cx g mm X) (hown : mm.1.cls = "NapkinDeeds$Compared") {a count : Nat} (hdep : 1 ≤ d) (hrest : (st.map nd_cn).sum ≤ 8) (hcs : cs ≤ mc) (hss : ss ≤ ms) (hd : decode mm.2.1 pc = .ok (.invokeinterface 20 count, 5)) (hE : ev_M g h a (d - 1) (nd_Kc g mm d mc ms K X pc 5 lv st cs ss)) : nd_W g mm d mc ms K X pc lv (.ref 93 :: .ref a :: st) h cs ss := by
  rcases hE with ⟨fs, hb, hM⟩ | ⟨fs, hb, hM⟩ | ⟨ci, fs, hci, hb, hM⟩
  · exact nd_callF (mm2 := mX10_of) (As := [.ref 93]) (mc2 := 0) (ms2 := 0) (d2 := d - 1) (x := ⟨"NapkinDeeds$Sum", "of", "(LNapkinDeeds$Case;)I"⟩) hC rfl (by rw [hown]; exact lfX17_20_X10) (lgX10_of hC.ok) ⟨by decide, by decide, by decide +kernel⟩ hb rfl (by decide) (by omega) rfl hrest hcs hss hd rfl hM
  · exact nd_callF (mm2 := mX11_of) (As := [.ref 93]) (mc2 := 0) (ms2 := 0) (d2 := d - 1) (x := ⟨"NapkinDeeds$Sum", "of", "(LNapkinDeeds$Case;)I"⟩) hC rfl (by rw [hown]; exact lfX17_20_X11) (lgX11_of hC.ok) ⟨by decide, by decide, by decide +kernel⟩ hb rfl (by decide) (by omega) rfl hrest hcs hss hd rfl hM
  · rcases hci with rfl | rfl | rfl
    · exact nd_callF (mm2 := mX12_of) (As := [.ref 93]) (mc2 := 0) (ms2 := 0) (d2 := d - 1) (x := ⟨"NapkinDeeds$Sum", "of", "(LNapkinDeeds$Case;)I"⟩) hC rfl (by rw [hown]; exact lfX17_20_X13) (lgX13_of hC.ok) ⟨by decide, by decide, by decide +kernel⟩ hb rfl (by decide) (by omega) rfl hrest hcs hss hd rfl hM
    · exact nd_callF (mm2 := mX12_of) (As := [.ref 93]) (mc2 := 0) (ms2 := 0) (d2 := d - 1) (x := ⟨"NapkinDeeds$Sum", "of", "(LNapkinDeeds$Case;)I"⟩) hC rfl (by rw [hown]; exact lfX17_20_X14) (lgX14_of hC.ok) ⟨by decide, by decide, by decide +kernel⟩ hb rfl (by decide) (by omega) rfl hrest hcs hss hd rfl hM
    · exact nd_callF (mm2 := mX12_of) (As := [.ref 93]) (mc2 := 0) (ms2 := 0) (d2 := d - 1) (x := ⟨"NapkinDeeds$Sum", "of", "(LNapkinDeeds$Case;)I"⟩) hC rfl (by rw [hown]; exact lfX17_20_X15) (lgX15_of hC.ok) ⟨by decide, by decide, by decide +kernel⟩ hb rfl (by decide) (by omega) rfl hrest hcs hss hd rfl hM
theorem et_callX1 (hC : nd_Cx g mm X) (hown : mm.1.cls = "NapkinDeeds") {a count : Nat} (hdep : 1 ≤ d) (hrest : (st.map nd_cn).sum ≤ 8) (hcs : cs ≤ mc) (hss : ss ≤ ms) (hd : decode mm.2.1 pc = .ok (.invokeinterface 257 count, 5)) (hE : et_M g h a (d - 1) (nd_Kc g mm d mc ms K X pc 5 lv st cs ss)) : nd_W g mm d mc ms K X pc lv (.ref 93 :: .ref a :: st) h cs ss := by
  rcases hE with ⟨fs, hb, hM⟩ | ⟨fs, hb, hM⟩ | ⟨fs, hb, hM⟩ | ⟨fs, hb, hM⟩
  · exact nd_callF (mm2 := mX16_holds) (As := [.ref 93]) (mc2 := 0) (ms2 := 0) (d2 := d - 1) (x := ⟨"NapkinDeeds$Truth", "holds", "(LNapkinDeeds$Case;)Z"⟩) hC rfl (by rw [hown]; exact lfX1_257_X16) (lgX16_holds hC.ok) ⟨by decide, by decide, by decide +kernel⟩ hb rfl (by decide) (by omega) rfl hrest hcs hss hd rfl hM
  · exact nd_callF (mm2 := mX17_holds) (As := [.ref 93]) (mc2 := 0) (ms2 := 0) (d2 := d - 1) (x := ⟨"NapkinDeeds$Truth", "holds", "(LNapkinDeeds$Case;)Z"⟩) hC rfl (by rw [hown]; exact lfX1_257_X17) (lgX17_holds hC.ok) ⟨by decide, by decide, by decide +kernel⟩ hb rfl (by decide) (by omega) rfl hrest hcs hss hd rfl hM
  · exact nd_callF (mm2 := mX18_holds) (As := [.ref 93]) (mc2 := 0) (ms2 := 0) (d2 := d - 1) (x := ⟨"NapkinDeeds$Truth", "holds", "(LNapkinDeeds$Case;)Z"⟩) hC rfl (by rw [hown]; exact lfX1_257_X18) (lgX18_holds hC.ok) ⟨by decide, by decide, by decide +kernel⟩ hb rfl (by decide) (by omega) rfl hrest hcs hss hd rfl hM
  · exact nd_callF (mm2 := mX19_holds) (As := [.ref 93]) (mc2 := 0) (ms2 := 0) (d2 := d - 1) (x := ⟨"NapkinDeeds$Truth", "holds", "(LNapkinDeeds$Case;)Z"⟩) hC rfl (by rw [hown]; exact lfX1_257_X19) (lgX19_holds hC.ok) ⟨by decide, by decide, by decide +kernel⟩ hb rfl (by decide) (by omega) rfl hrest hcs hss hd rfl hM
theorem et_callX18 (hC : nd_Cx g mm X) (hown : mm.1.cls = "NapkinDeeds$Both") {a count : Nat} (hdep : 1 ≤ d) (hrest : (st.map nd_cn).sum ≤ 8) (hcs : cs ≤ mc) (hss : ss ≤ ms) (hd : decode mm.2.1 pc = .ok (.invokeinterface 16 count, 5)) (hE : et_M g h a (d - 1) (nd_Kc g mm d mc ms K X pc 5 lv st cs ss)) : nd_W g mm d mc ms K X pc lv (.ref 93 :: .ref a :: st) h cs ss := by
  rcases hE with ⟨fs, hb, hM⟩ | ⟨fs, hb, hM⟩ | ⟨fs, hb, hM⟩ | ⟨fs, hb, hM⟩
  · exact nd_callF (mm2 := mX16_holds) (As := [.ref 93]) (mc2 := 0) (ms2 := 0) (d2 := d - 1) (x := ⟨"NapkinDeeds$Truth", "holds", "(LNapkinDeeds$Case;)Z"⟩) hC rfl (by rw [hown]; exact lfX18_16_X16) (lgX16_holds hC.ok) ⟨by decide, by decide, by decide +kernel⟩ hb rfl (by decide) (by omega) rfl hrest hcs hss hd rfl hM
  · exact nd_callF (mm2 := mX17_holds) (As := [.ref 93]) (mc2 := 0) (ms2 := 0) (d2 := d - 1) (x := ⟨"NapkinDeeds$Truth", "holds", "(LNapkinDeeds$Case;)Z"⟩) hC rfl (by rw [hown]; exact lfX18_16_X17) (lgX17_holds hC.ok) ⟨by decide, by decide, by decide +kernel⟩ hb rfl (by decide) (by omega) rfl hrest hcs hss hd rfl hM
  · exact nd_callF (mm2 := mX18_holds) (As := [.ref 93]) (mc2 := 0) (ms2 := 0) (d2 := d - 1) (x := ⟨"NapkinDeeds$Truth", "holds", "(LNapkinDeeds$Case;)Z"⟩) hC rfl (by rw [hown]; exact lfX18_16_X18) (lgX18_holds hC.ok) ⟨by decide, by decide, by decide +kernel⟩ hb rfl (by decide) (by omega) rfl hrest hcs hss hd rfl hM
  · exact nd_callF (mm2 := mX19_holds) (As := [.ref 93]) (mc2 := 0) (ms2 := 0) (d2 := d - 1) (x := ⟨"NapkinDeeds$Truth", "holds", "(LNapkinDeeds$Case;)Z"⟩) hC rfl (by rw [hown]; exact lfX18_16_X19) (lgX19_holds hC.ok) ⟨by decide, by decide, by decide +kernel⟩ hb rfl (by decide) (by omega) rfl hrest hcs hss hd rfl hM
theorem et_callX16 (hC : nd_Cx g mm X) (hown : mm.1.cls = "NapkinDeeds$Not") {a count : Nat} (hdep : 1 ≤ d) (hrest : (st.map nd_cn).sum ≤ 8) (hcs : cs ≤ mc) (hss : ss ≤ ms) (hd : decode mm.2.1 pc = .ok (.invokeinterface 13 count, 5)) (hE : et_M g h a (d - 1) (nd_Kc g mm d mc ms K X pc 5 lv st cs ss)) : nd_W g mm d mc ms K X pc lv (.ref 93 :: .ref a :: st) h cs ss := by
  rcases hE with ⟨fs, hb, hM⟩ | ⟨fs, hb, hM⟩ | ⟨fs, hb, hM⟩ | ⟨fs, hb, hM⟩
  · exact nd_callF (mm2 := mX16_holds) (As := [.ref 93]) (mc2 := 0) (ms2 := 0) (d2 := d - 1) (x := ⟨"NapkinDeeds$Truth", "holds", "(LNapkinDeeds$Case;)Z"⟩) hC rfl (by rw [hown]; exact lfX16_13_X16) (lgX16_holds hC.ok) ⟨by decide, by decide, by decide +kernel⟩ hb rfl (by decide) (by omega) rfl hrest hcs hss hd rfl hM
  · exact nd_callF (mm2 := mX17_holds) (As := [.ref 93]) (mc2 := 0) (ms2 := 0) (d2 := d - 1) (x := ⟨"NapkinDeeds$Truth", "holds", "(LNapkinDeeds$Case;)Z"⟩) hC rfl (by rw [hown]; exact lfX16_13_X17) (lgX17_holds hC.ok) ⟨by decide, by decide, by decide +kernel⟩ hb rfl (by decide) (by omega) rfl hrest hcs hss hd rfl hM
  · exact nd_callF (mm2 := mX18_holds) (As := [.ref 93]) (mc2 := 0) (ms2 := 0) (d2 := d - 1) (x := ⟨"NapkinDeeds$Truth", "holds", "(LNapkinDeeds$Case;)Z"⟩) hC rfl (by rw [hown]; exact lfX16_13_X18) (lgX18_holds hC.ok) ⟨by decide, by decide, by decide +kernel⟩ hb rfl (by decide) (by omega) rfl hrest hcs hss hd rfl hM
  · exact nd_callF (mm2 := mX19_holds) (As := [.ref 93]) (mc2 := 0) (ms2 := 0) (d2 := d - 1) (x := ⟨"NapkinDeeds$Truth", "holds", "(LNapkinDeeds$Case;)Z"⟩) hC rfl (by rw [hown]; exact lfX16_13_X19) (lgX19_holds hC.ok) ⟨by decide, by decide, by decide +kernel⟩ hb rfl (by decide) (by omega) rfl hrest hcs hss hd rfl hM
end EVS


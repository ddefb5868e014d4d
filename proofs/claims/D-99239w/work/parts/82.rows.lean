set_option maxRecDepth 100000
/-- a private method is selected whatever the receiver's class; that the method's class is no interface comes by another method of it that is selected for C -/
theorem nd_selG {s : State} {args : Array Value} {C : String} {x z y : MethodName} (hs : (Cond.selects C x z).before args s = true) (hz : z.cls = y.cls) (hp : (Cond.privateMethod y).before args s = true) (hi : (Cond.instanceMethod y).before args s = true) (hy : y.cls ≠ "java/lang/invoke/MethodHandle" ∧ y.cls ≠ "java/lang/invoke/VarHandle") : (Cond.selects C y y).before args s = true := by
  obtain ⟨c, r, m, q1, -, q3, -, k, q5, q6⟩ := Cond.selects_spec hs
  obtain ⟨mk, methM, hnamed, hmethM, -, -⟩ := Cond.instanceMethod_spec hi
  have hfound : s.methodFound? y.cls y.name y.desc = some mk := State.methodFound?_of_named hnamed hy
  have e1 : s.vm.findClass y.cls = some mk.cls := findClass_of_methodNamed hnamed
  have e2 : s.vm.findClass z.cls = some m.cls := findClass_of_methodNamed q3
  have e3 : mk.cls = m.cls := Option.some.inj (by rw [← e1, ← e2, hz])
  have hsel : selectMethod {} s.vm c mk = .method mk := selectMethod_private hmethM (Cond.privateMethod_at hp mk methM hnamed hmethM)
  simp only [Cond.before, Cond.holds, Cond.value, q1, hfound, hnamed, hsel, e3, q5]
  simp; exact q6

/-- the classes of searches: where the row lies among their fields -/
def ro_ok (ci k : Nat) : Prop := (ci = nX22 ∧ k = 2) ∨ (ci = nX33 ∧ k = 2) ∨ (ci = nX24 ∧ k = 2) ∨ (ci = nX28 ∧ k = 2) ∨ (ci = nX32 ∧ k = 2) ∨ (ci = nX35 ∧ k = 2) ∨ (ci = nX37 ∧ k = 2) ∨ (ci = nX27 ∧ k = 4) ∨ (ci = nX30 ∧ k = 4) ∨ (ci = nX31 ∧ k = 4) ∨ (ci = nX34 ∧ k = 4) ∨ (ci = nX29 ∧ k = 4) ∨ (ci = nX36 ∧ k = 4) ∨ (ci = nX38 ∧ k = 4) ∨ (ci = nX39 ∧ k = 0)
/-- a search at b, its row at rb -/
def ro_at (h : nd_H) (b ci rb : Nat) : Prop := ∃ k fs, ro_ok ci k ∧ h[b]? = some (.inr (ci, fs)) ∧ fs[k]? = some (.ref rb) ∧ fs[k + 1]? = some (.ref 0)
/-- the contract of 'sees' at b, whatever its class -/
def ro_M (g : nd_G) (h : nd_H) (b d : Nat) (As : List Value) (K : nd_K) : Prop := (∃ ci fs, (ci = nX22 ∨ ci = nX33) ∧ h[b]? = some (.inr (ci, fs)) ∧ nd_M g mX21_sees d 0 0 (.ref b :: As) h K) ∨ (∃ ci fs, (ci = nX24 ∨ ci = nX28 ∨ ci = nX32 ∨ ci = nX35 ∨ ci = nX37) ∧ h[b]? = some (.inr (ci, fs)) ∧ nd_M g mX23_sees d 0 0 (.ref b :: As) h K) ∨ (∃ ci fs, (ci = nX27 ∨ ci = nX30 ∨ ci = nX31 ∨ ci = nX34) ∧ h[b]? = some (.inr (ci, fs)) ∧ nd_M g mX26_sees d 0 0 (.ref b :: As) h K) ∨ (∃ ci fs, (ci = nX29 ∨ ci = nX36 ∨ ci = nX38) ∧ h[b]? = some (.inr (ci, fs)) ∧ nd_M g mX25_sees d 0 0 (.ref b :: As) h K) ∨ (∃ ci fs, (ci = nX39) ∧ h[b]? = some (.inr (ci, fs)) ∧ nd_M g mX39_sees d 0 0 (.ref b :: As) h K)
section RO82
variable {g : nd_G} {mm : nd_Mt} {d mc ms : Nat} {K : nd_K} {X : nd_X} {pc : Nat} {lv : List (Option Value)} {st : List Value} {h : nd_H} {cs ss : Nat} {b ci rb : Nat}
theorem ro_row (hC : nd_Cx g mm X) (hown : mm.1.cls = "NapkinDeeds$Rows") (hr : ro_at h b ci rb) (hd : decode mm.2.1 pc = .ok (.getfield 15, 3)) (kk : nd_W g mm d mc ms K X (pc + 3) lv (.ref rb :: st) h cs ss) : nd_W g mm d mc ms K X pc lv (.ref b :: st) h cs ss := by
  obtain ⟨k, fs, hk, hb, h1, h2⟩ := hr
  unfold ro_ok at hk
  rcases hk with ⟨rfl, rfl⟩ | ⟨rfl, rfl⟩ | ⟨rfl, rfl⟩ | ⟨rfl, rfl⟩ | ⟨rfl, rfl⟩ | ⟨rfl, rfl⟩ | ⟨rfl, rfl⟩ | ⟨rfl, rfl⟩ | ⟨rfl, rfl⟩ | ⟨rfl, rfl⟩ | ⟨rfl, rfl⟩ | ⟨rfl, rfl⟩ | ⟨rfl, rfl⟩ | ⟨rfl, rfl⟩ | ⟨rfl, rfl⟩
  · exact nd_get (ci := nX22) hC in_X22 rfl hb 2 (by decide) (by rw [hown]; exact q783) (fun _ z => z) h1 hd kk
  · exact nd_get (ci := nX33) hC in_X33 rfl hb 2 (by decide) (by rw [hown]; exact q783) (fun _ z => z) h1 hd kk
  · exact nd_get (ci := nX24) hC in_X24 rfl hb 2 (by decide) (by rw [hown]; exact q783) (fun _ z => z) h1 hd kk
  · exact nd_get (ci := nX28) hC in_X28 rfl hb 2 (by decide) (by rw [hown]; exact q783) (fun _ z => z) h1 hd kk
  · exact nd_get (ci := nX32) hC in_X32 rfl hb 2 (by decide) (by rw [hown]; exact q783) (fun _ z => z) h1 hd kk
  · exact nd_get (ci := nX35) hC in_X35 rfl hb 2 (by decide) (by rw [hown]; exact q783) (fun _ z => z) h1 hd kk
  · exact nd_get (ci := nX37) hC in_X37 rfl hb 2 (by decide) (by rw [hown]; exact q783) (fun _ z => z) h1 hd kk
  · exact nd_get (ci := nX27) hC in_X27 rfl hb 4 (by decide) (by rw [hown]; exact q783) (fun _ z => z) h1 hd kk
  · exact nd_get (ci := nX30) hC in_X30 rfl hb 4 (by decide) (by rw [hown]; exact q783) (fun _ z => z) h1 hd kk
  · exact nd_get (ci := nX31) hC in_X31 rfl hb 4 (by decide) (by rw [hown]; exact q783) (fun _ z => z) h1 hd kk
  · exact nd_get (ci := nX34) hC in_X34 rfl hb 4 (by decide) (by rw [hown]; exact q783) (fun _ z => z) h1 hd kk
  · exact nd_get (ci := nX29) hC in_X29 rfl hb 4 (by decide) (by rw [hown]; exact q783) (fun _ z => z) h1 hd kk
  · exact nd_get (ci := nX36) hC in_X36 rfl hb 4 (by decide) (by rw [hown]; exact q783) (fun _ z => z) h1 hd kk
  · exact nd_get (ci := nX38) hC in_X38 rfl hb 4 (by decide) (by rw [hown]; exact q783) (fun _ z => z) h1 hd kk
  · exact nd_get (ci := nX39) hC in_X39 rfl hb 0 (by decide) (by rw [hown]; exact q783) (fun _ z => z) h1 hd kk
theorem ro_this (hC : nd_Cx g mm X) (hown : mm.1.cls = "NapkinDeeds$Rows") (hr : ro_at h b ci rb) (hd : decode mm.2.1 pc = .ok (.getfield 3, 3)) (kk : nd_W g mm d mc ms K X (pc + 3) lv (.ref 0 :: st) h cs ss) : nd_W g mm d mc ms K X pc lv (.ref b :: st) h cs ss := by
  obtain ⟨k, fs, hk, hb, h1, h2⟩ := hr
  unfold ro_ok at hk
  rcases hk with ⟨rfl, rfl⟩ | ⟨rfl, rfl⟩ | ⟨rfl, rfl⟩ | ⟨rfl, rfl⟩ | ⟨rfl, rfl⟩ | ⟨rfl, rfl⟩ | ⟨rfl, rfl⟩ | ⟨rfl, rfl⟩ | ⟨rfl, rfl⟩ | ⟨rfl, rfl⟩ | ⟨rfl, rfl⟩ | ⟨rfl, rfl⟩ | ⟨rfl, rfl⟩ | ⟨rfl, rfl⟩ | ⟨rfl, rfl⟩
  · exact nd_get (ci := nX22) hC in_X22 rfl hb 3 (by decide) (by rw [hown]; exact q786) (fun _ z => z) h2 hd kk
  · exact nd_get (ci := nX33) hC in_X33 rfl hb 3 (by decide) (by rw [hown]; exact q786) (fun _ z => z) h2 hd kk
  · exact nd_get (ci := nX24) hC in_X24 rfl hb 3 (by decide) (by rw [hown]; exact q786) (fun _ z => z) h2 hd kk
  · exact nd_get (ci := nX28) hC in_X28 rfl hb 3 (by decide) (by rw [hown]; exact q786) (fun _ z => z) h2 hd kk
  · exact nd_get (ci := nX32) hC in_X32 rfl hb 3 (by decide) (by rw [hown]; exact q786) (fun _ z => z) h2 hd kk
  · exact nd_get (ci := nX35) hC in_X35 rfl hb 3 (by decide) (by rw [hown]; exact q786) (fun _ z => z) h2 hd kk
  · exact nd_get (ci := nX37) hC in_X37 rfl hb 3 (by decide) (by rw [hown]; exact q786) (fun _ z => z) h2 hd kk
  · exact nd_get (ci := nX27) hC in_X27 rfl hb 5 (by decide) (by rw [hown]; exact q786) (fun _ z => z) h2 hd kk
  · exact nd_get (ci := nX30) hC in_X30 rfl hb 5 (by decide) (by rw [hown]; exact q786) (fun _ z => z) h2 hd kk
  · exact nd_get (ci := nX31) hC in_X31 rfl hb 5 (by decide) (by rw [hown]; exact q786) (fun _ z => z) h2 hd kk
  · exact nd_get (ci := nX34) hC in_X34 rfl hb 5 (by decide) (by rw [hown]; exact q786) (fun _ z => z) h2 hd kk
  · exact nd_get (ci := nX29) hC in_X29 rfl hb 5 (by decide) (by rw [hown]; exact q786) (fun _ z => z) h2 hd kk
  · exact nd_get (ci := nX36) hC in_X36 rfl hb 5 (by decide) (by rw [hown]; exact q786) (fun _ z => z) h2 hd kk
  · exact nd_get (ci := nX38) hC in_X38 rfl hb 5 (by decide) (by rw [hown]; exact q786) (fun _ z => z) h2 hd kk
  · exact nd_get (ci := nX39) hC in_X39 rfl hb 1 (by decide) (by rw [hown]; exact q786) (fun _ z => z) h2 hd kk
theorem ro_callS (hC : nd_Cx g mm X) (hown : mm.1.cls = "NapkinDeeds$Rows") {v1 v2 v3 : Value} (hdep : 1 ≤ d) (hrest : (st.map nd_cn).sum ≤ 8) (hcs : cs ≤ mc) (hss : ss ≤ ms) (hd : decode mm.2.1 pc = .ok (.invokevirtual 55, 3)) (hM : ro_M g h b (d - 1) [v1, v2, v3] (nd_Kc g mm d mc ms K X pc 3 lv st cs ss)) : nd_W g mm d mc ms K X pc lv (v3 :: v2 :: v1 :: .ref b :: st) h cs ss := by
  unfold ro_M at hM
  rcases hM with ⟨ci, fs, hci, hb, hM⟩ | ⟨ci, fs, hci, hb, hM⟩ | ⟨ci, fs, hci, hb, hM⟩ | ⟨ci, fs, hci, hb, hM⟩ | ⟨ci, fs, hci, hb, hM⟩
  · rcases hci with rfl | rfl
    · exact nd_callU (mm2 := mX21_sees) (As := [v1, v2, v3]) (mc2 := 0) (ms2 := 0) (d2 := d - 1) (owner := "NapkinDeeds$Rows") (x := ⟨"NapkinDeeds$Rows", "sees", "(LNapkinDeeds$Look;II)V"⟩) (n := 3) hC rfl (va_cwA 3 hC.hts (by rw [hown]; exact lw_U q830 q832 q833 q834 q191 q835) rfl rfl rfl (nd_dec hC q831) ⟨by decide, by decide, by decide +kernel⟩ (nd_roomR (by omega) (by decide))) hb rfl (by decide) (by omega) rfl hrest hcs hss hd rfl hM
    · exact nd_callU (mm2 := mX21_sees) (As := [v1, v2, v3]) (mc2 := 0) (ms2 := 0) (d2 := d - 1) (owner := "NapkinDeeds$Rows") (x := ⟨"NapkinDeeds$Rows", "sees", "(LNapkinDeeds$Look;II)V"⟩) (n := 3) hC rfl (va_cwA 3 hC.hts (by rw [hown]; exact lw_U q830 q832 q1012 q834 q191 q835) rfl rfl rfl (nd_dec hC q831) ⟨by decide, by decide, by decide +kernel⟩ (nd_roomR (by omega) (by decide))) hb rfl (by decide) (by omega) rfl hrest hcs hss hd rfl hM
  · rcases hci with rfl | rfl | rfl | rfl | rfl
    · exact nd_callU (mm2 := mX23_sees) (As := [v1, v2, v3]) (mc2 := 0) (ms2 := 0) (d2 := d - 1) (owner := "NapkinDeeds$Rows") (x := ⟨"NapkinDeeds$Rows", "sees", "(LNapkinDeeds$Look;II)V"⟩) (n := 3) hC rfl (va_cwA 3 hC.hts (by rw [hown]; exact lw_U q830 q832 q1005 q958 q193 q959) rfl rfl rfl (nd_dec hC q831) ⟨by decide, by decide, by decide +kernel⟩ (nd_roomR (by omega) (by decide))) hb rfl (by decide) (by omega) rfl hrest hcs hss hd rfl hM
    · exact nd_callU (mm2 := mX23_sees) (As := [v1, v2, v3]) (mc2 := 0) (ms2 := 0) (d2 := d - 1) (owner := "NapkinDeeds$Rows") (x := ⟨"NapkinDeeds$Rows", "sees", "(LNapkinDeeds$Look;II)V"⟩) (n := 3) hC rfl (va_cwA 3 hC.hts (by rw [hown]; exact lw_U q830 q832 q1007 q958 q193 q959) rfl rfl rfl (nd_dec hC q831) ⟨by decide, by decide, by decide +kernel⟩ (nd_roomR (by omega) (by decide))) hb rfl (by decide) (by omega) rfl hrest hcs hss hd rfl hM
    · exact nd_callU (mm2 := mX23_sees) (As := [v1, v2, v3]) (mc2 := 0) (ms2 := 0) (d2 := d - 1) (owner := "NapkinDeeds$Rows") (x := ⟨"NapkinDeeds$Rows", "sees", "(LNapkinDeeds$Look;II)V"⟩) (n := 3) hC rfl (va_cwA 3 hC.hts (by rw [hown]; exact lw_U q830 q832 q1011 q958 q193 q959) rfl rfl rfl (nd_dec hC q831) ⟨by decide, by decide, by decide +kernel⟩ (nd_roomR (by omega) (by decide))) hb rfl (by decide) (by omega) rfl hrest hcs hss hd rfl hM
    · exact nd_callU (mm2 := mX23_sees) (As := [v1, v2, v3]) (mc2 := 0) (ms2 := 0) (d2 := d - 1) (owner := "NapkinDeeds$Rows") (x := ⟨"NapkinDeeds$Rows", "sees", "(LNapkinDeeds$Look;II)V"⟩) (n := 3) hC rfl (va_cwA 3 hC.hts (by rw [hown]; exact lw_U q830 q832 q957 q958 q193 q959) rfl rfl rfl (nd_dec hC q831) ⟨by decide, by decide, by decide +kernel⟩ (nd_roomR (by omega) (by decide))) hb rfl (by decide) (by omega) rfl hrest hcs hss hd rfl hM
    · exact nd_callU (mm2 := mX23_sees) (As := [v1, v2, v3]) (mc2 := 0) (ms2 := 0) (d2 := d - 1) (owner := "NapkinDeeds$Rows") (x := ⟨"NapkinDeeds$Rows", "sees", "(LNapkinDeeds$Look;II)V"⟩) (n := 3) hC rfl (va_cwA 3 hC.hts (by rw [hown]; exact lw_U q830 q832 q1003 q958 q193 q959) rfl rfl rfl (nd_dec hC q831) ⟨by decide, by decide, by decide +kernel⟩ (nd_roomR (by omega) (by decide))) hb rfl (by decide) (by omega) rfl hrest hcs hss hd rfl hM
  · rcases hci with rfl | rfl | rfl | rfl
    · exact nd_callU (mm2 := mX26_sees) (As := [v1, v2, v3]) (mc2 := 0) (ms2 := 0) (d2 := d - 1) (owner := "NapkinDeeds$Rows") (x := ⟨"NapkinDeeds$Rows", "sees", "(LNapkinDeeds$Look;II)V"⟩) (n := 3) hC rfl (va_cwA 3 hC.hts (by rw [hown]; exact lw_U q830 q832 q1006 q867 q202 q868) rfl rfl rfl (nd_dec hC q831) ⟨by decide, by decide, by decide +kernel⟩ (nd_roomR (by omega) (by decide))) hb rfl (by decide) (by omega) rfl hrest hcs hss hd rfl hM
    · exact nd_callU (mm2 := mX26_sees) (As := [v1, v2, v3]) (mc2 := 0) (ms2 := 0) (d2 := d - 1) (owner := "NapkinDeeds$Rows") (x := ⟨"NapkinDeeds$Rows", "sees", "(LNapkinDeeds$Look;II)V"⟩) (n := 3) hC rfl (va_cwA 3 hC.hts (by rw [hown]; exact lw_U q830 q832 q1009 q867 q202 q868) rfl rfl rfl (nd_dec hC q831) ⟨by decide, by decide, by decide +kernel⟩ (nd_roomR (by omega) (by decide))) hb rfl (by decide) (by omega) rfl hrest hcs hss hd rfl hM
    · exact nd_callU (mm2 := mX26_sees) (As := [v1, v2, v3]) (mc2 := 0) (ms2 := 0) (d2 := d - 1) (owner := "NapkinDeeds$Rows") (x := ⟨"NapkinDeeds$Rows", "sees", "(LNapkinDeeds$Look;II)V"⟩) (n := 3) hC rfl (va_cwA 3 hC.hts (by rw [hown]; exact lw_U q830 q832 q1010 q867 q202 q868) rfl rfl rfl (nd_dec hC q831) ⟨by decide, by decide, by decide +kernel⟩ (nd_roomR (by omega) (by decide))) hb rfl (by decide) (by omega) rfl hrest hcs hss hd rfl hM
    · exact nd_callU (mm2 := mX26_sees) (As := [v1, v2, v3]) (mc2 := 0) (ms2 := 0) (d2 := d - 1) (owner := "NapkinDeeds$Rows") (x := ⟨"NapkinDeeds$Rows", "sees", "(LNapkinDeeds$Look;II)V"⟩) (n := 3) hC rfl (va_cwA 3 hC.hts (by rw [hown]; exact lw_U q830 q832 q866 q867 q202 q868) rfl rfl rfl (nd_dec hC q831) ⟨by decide, by decide, by decide +kernel⟩ (nd_roomR (by omega) (by decide))) hb rfl (by decide) (by omega) rfl hrest hcs hss hd rfl hM
  · rcases hci with rfl | rfl | rfl
    · exact nd_callU (mm2 := mX25_sees) (As := [v1, v2, v3]) (mc2 := 0) (ms2 := 0) (d2 := d - 1) (owner := "NapkinDeeds$Rows") (x := ⟨"NapkinDeeds$Rows", "sees", "(LNapkinDeeds$Look;II)V"⟩) (n := 3) hC rfl (va_cwA 3 hC.hts (by rw [hown]; exact lw_U q830 q832 q1008 q906 q201 q907) rfl rfl rfl (nd_dec hC q831) ⟨by decide, by decide, by decide +kernel⟩ (nd_roomR (by omega) (by decide))) hb rfl (by decide) (by omega) rfl hrest hcs hss hd rfl hM
    · exact nd_callU (mm2 := mX25_sees) (As := [v1, v2, v3]) (mc2 := 0) (ms2 := 0) (d2 := d - 1) (owner := "NapkinDeeds$Rows") (x := ⟨"NapkinDeeds$Rows", "sees", "(LNapkinDeeds$Look;II)V"⟩) (n := 3) hC rfl (va_cwA 3 hC.hts (by rw [hown]; exact lw_U q830 q832 q1002 q906 q201 q907) rfl rfl rfl (nd_dec hC q831) ⟨by decide, by decide, by decide +kernel⟩ (nd_roomR (by omega) (by decide))) hb rfl (by decide) (by omega) rfl hrest hcs hss hd rfl hM
    · exact nd_callU (mm2 := mX25_sees) (As := [v1, v2, v3]) (mc2 := 0) (ms2 := 0) (d2 := d - 1) (owner := "NapkinDeeds$Rows") (x := ⟨"NapkinDeeds$Rows", "sees", "(LNapkinDeeds$Look;II)V"⟩) (n := 3) hC rfl (va_cwA 3 hC.hts (by rw [hown]; exact lw_U q830 q832 q1004 q906 q201 q907) rfl rfl rfl (nd_dec hC q831) ⟨by decide, by decide, by decide +kernel⟩ (nd_roomR (by omega) (by decide))) hb rfl (by decide) (by omega) rfl hrest hcs hss hd rfl hM
  · subst hci
    exact nd_callU (mm2 := mX39_sees) (As := [v1, v2, v3]) (mc2 := 0) (ms2 := 0) (d2 := d - 1) (owner := "NapkinDeeds$Rows") (x := ⟨"NapkinDeeds$Rows", "sees", "(LNapkinDeeds$Look;II)V"⟩) (n := 3) hC rfl (va_cwA 3 hC.hts (by rw [hown]; exact lw_U q830 q832 q1013 q1014 q215 q1015) rfl rfl rfl (nd_dec hC q831) ⟨by decide, by decide, by decide +kernel⟩ (nd_roomR (by omega) (by decide))) hb rfl (by decide) (by omega) rfl hrest hcs hss hd rfl hM
theorem ro_cu (hC : nd_Cx g mm X) (hown : mm.1.cls = "NapkinDeeds$Rows") {C : String} {x z : MethodName} {d2 : Nat} (hw : Cond.selects C x z ∈ lw_all) (hz : z.cls = "NapkinDeeds$Rows") (hdep : d2 + 1 ≤ d) : va_CU (nd_rm d mc ms) X.2.2.1 X.2.2.2.2.1 mm.1.cls C "NapkinDeeds$Rows" 51 ⟨"NapkinDeeds$Rows", "goes", "(LNapkinDeeds$Look;III)V"⟩ mX20_goes.1 mX20_goes.2.1 mX20_goes.2.2.1 mX20_goes.2.2.2.1 (ws_ mX20_goes.1 mX20_goes.2.1 mX20_goes.2.2.1 mX20_goes.2.2.2.1) (nd_rm d2 0 0) 0 0 4 := by
  have hroom := nd_roomR (d := d) (d' := d2) (L := 7) (mc := mc) (ms := ms) (mc' := 0) (ms' := 0) hdep (by omega)
  refine ⟨⟨rfl, rfl, hroom.1, hroom.2, pay_in hC.hts (lw_meth q829), List.mem_cons_self⟩, hC.hts _ q829, hC.hts _ q190, ⟨by decide, by decide⟩, fun sig hsig => ?_, by rw [hown]; exact hC.hts _ q826, hC.hts _ q3485, va_Decl.of (hC.hts _ q828) (hC.hts _ q829), nd_selG (hC.hts _ hw) hz (nd_face hC q827 rfl rfl) (hC.hts _ q828) ⟨by decide, by decide⟩, hC.hts _ q828⟩
  have h9 : (parseMethodDescriptor "(LNapkinDeeds$Look;III)V").map (fun d => d.parameters.length) = some 4 := by decide +kernel
  rw [hsig] at h9
  exact (Option.some.inj h9).symm
theorem ro_callG (hC : nd_Cx g mm X) (hown : mm.1.cls = "NapkinDeeds$Rows") (hr : ro_at h b ci rb) {v1 v2 v3 v4 : Value} (hdep : 1 ≤ d) (hrest : (st.map nd_cn).sum ≤ 8) (hcs : cs ≤ mc) (hss : ss ≤ ms) (hd : decode mm.2.1 pc = .ok (.invokevirtual 51, 3)) (hM : nd_M g mX20_goes (d - 1) 0 0 [.ref b, v1, v2, v3, v4] h (nd_Kc g mm d mc ms K X pc 3 lv st cs ss)) : nd_W g mm d mc ms K X pc lv (v4 :: v3 :: v2 :: v1 :: .ref b :: st) h cs ss := by
  obtain ⟨k, fs, hk, hb, h1, h2⟩ := hr
  unfold ro_ok at hk
  rcases hk with ⟨rfl, rfl⟩ | ⟨rfl, rfl⟩ | ⟨rfl, rfl⟩ | ⟨rfl, rfl⟩ | ⟨rfl, rfl⟩ | ⟨rfl, rfl⟩ | ⟨rfl, rfl⟩ | ⟨rfl, rfl⟩ | ⟨rfl, rfl⟩ | ⟨rfl, rfl⟩ | ⟨rfl, rfl⟩ | ⟨rfl, rfl⟩ | ⟨rfl, rfl⟩ | ⟨rfl, rfl⟩ | ⟨rfl, rfl⟩
  · exact nd_callU (mm2 := mX20_goes) (As := [v1, v2, v3, v4]) (mc2 := 0) (ms2 := 0) (d2 := d - 1) (owner := "NapkinDeeds$Rows") (x := ⟨"NapkinDeeds$Rows", "goes", "(LNapkinDeeds$Look;III)V"⟩) (n := 4) hC rfl (ro_cu hC hown q2158 rfl (by omega)) hb rfl (by decide) (by omega) rfl hrest hcs hss hd rfl hM
  · exact nd_callU (mm2 := mX20_goes) (As := [v1, v2, v3, v4]) (mc2 := 0) (ms2 := 0) (d2 := d - 1) (owner := "NapkinDeeds$Rows") (x := ⟨"NapkinDeeds$Rows", "goes", "(LNapkinDeeds$Look;III)V"⟩) (n := 4) hC rfl (ro_cu hC hown q2159 rfl (by omega)) hb rfl (by decide) (by omega) rfl hrest hcs hss hd rfl hM
  · exact nd_callU (mm2 := mX20_goes) (As := [v1, v2, v3, v4]) (mc2 := 0) (ms2 := 0) (d2 := d - 1) (owner := "NapkinDeeds$Rows") (x := ⟨"NapkinDeeds$Rows", "goes", "(LNapkinDeeds$Look;III)V"⟩) (n := 4) hC rfl (ro_cu hC hown q1089 rfl (by omega)) hb rfl (by decide) (by omega) rfl hrest hcs hss hd rfl hM
  · exact nd_callU (mm2 := mX20_goes) (As := [v1, v2, v3, v4]) (mc2 := 0) (ms2 := 0) (d2 := d - 1) (owner := "NapkinDeeds$Rows") (x := ⟨"NapkinDeeds$Rows", "goes", "(LNapkinDeeds$Look;III)V"⟩) (n := 4) hC rfl (ro_cu hC hown q1090 rfl (by omega)) hb rfl (by decide) (by omega) rfl hrest hcs hss hd rfl hM
  · exact nd_callU (mm2 := mX20_goes) (As := [v1, v2, v3, v4]) (mc2 := 0) (ms2 := 0) (d2 := d - 1) (owner := "NapkinDeeds$Rows") (x := ⟨"NapkinDeeds$Rows", "goes", "(LNapkinDeeds$Look;III)V"⟩) (n := 4) hC rfl (ro_cu hC hown q1091 rfl (by omega)) hb rfl (by decide) (by omega) rfl hrest hcs hss hd rfl hM
  · exact nd_callU (mm2 := mX20_goes) (As := [v1, v2, v3, v4]) (mc2 := 0) (ms2 := 0) (d2 := d - 1) (owner := "NapkinDeeds$Rows") (x := ⟨"NapkinDeeds$Rows", "goes", "(LNapkinDeeds$Look;III)V"⟩) (n := 4) hC rfl (ro_cu hC hown q1087 rfl (by omega)) hb rfl (by decide) (by omega) rfl hrest hcs hss hd rfl hM
  · exact nd_callU (mm2 := mX20_goes) (As := [v1, v2, v3, v4]) (mc2 := 0) (ms2 := 0) (d2 := d - 1) (owner := "NapkinDeeds$Rows") (x := ⟨"NapkinDeeds$Rows", "goes", "(LNapkinDeeds$Look;III)V"⟩) (n := 4) hC rfl (ro_cu hC hown q1088 rfl (by omega)) hb rfl (by decide) (by omega) rfl hrest hcs hss hd rfl hM
  · exact nd_callU (mm2 := mX20_goes) (As := [v1, v2, v3, v4]) (mc2 := 0) (ms2 := 0) (d2 := d - 1) (owner := "NapkinDeeds$Rows") (x := ⟨"NapkinDeeds$Rows", "goes", "(LNapkinDeeds$Look;III)V"⟩) (n := 4) hC rfl (ro_cu hC hown q808 rfl (by omega)) hb rfl (by decide) (by omega) rfl hrest hcs hss hd rfl hM
  · exact nd_callU (mm2 := mX20_goes) (As := [v1, v2, v3, v4]) (mc2 := 0) (ms2 := 0) (d2 := d - 1) (owner := "NapkinDeeds$Rows") (x := ⟨"NapkinDeeds$Rows", "goes", "(LNapkinDeeds$Look;III)V"⟩) (n := 4) hC rfl (ro_cu hC hown q810 rfl (by omega)) hb rfl (by decide) (by omega) rfl hrest hcs hss hd rfl hM
  · exact nd_callU (mm2 := mX20_goes) (As := [v1, v2, v3, v4]) (mc2 := 0) (ms2 := 0) (d2 := d - 1) (owner := "NapkinDeeds$Rows") (x := ⟨"NapkinDeeds$Rows", "goes", "(LNapkinDeeds$Look;III)V"⟩) (n := 4) hC rfl (ro_cu hC hown q811 rfl (by omega)) hb rfl (by decide) (by omega) rfl hrest hcs hss hd rfl hM
  · exact nd_callU (mm2 := mX20_goes) (As := [v1, v2, v3, v4]) (mc2 := 0) (ms2 := 0) (d2 := d - 1) (owner := "NapkinDeeds$Rows") (x := ⟨"NapkinDeeds$Rows", "goes", "(LNapkinDeeds$Look;III)V"⟩) (n := 4) hC rfl (ro_cu hC hown q805 rfl (by omega)) hb rfl (by decide) (by omega) rfl hrest hcs hss hd rfl hM
  · exact nd_callU (mm2 := mX20_goes) (As := [v1, v2, v3, v4]) (mc2 := 0) (ms2 := 0) (d2 := d - 1) (owner := "NapkinDeeds$Rows") (x := ⟨"NapkinDeeds$Rows", "goes", "(LNapkinDeeds$Look;III)V"⟩) (n := 4) hC rfl (ro_cu hC hown q809 rfl (by omega)) hb rfl (by decide) (by omega) rfl hrest hcs hss hd rfl hM
  · exact nd_callU (mm2 := mX20_goes) (As := [v1, v2, v3, v4]) (mc2 := 0) (ms2 := 0) (d2 := d - 1) (owner := "NapkinDeeds$Rows") (x := ⟨"NapkinDeeds$Rows", "goes", "(LNapkinDeeds$Look;III)V"⟩) (n := 4) hC rfl (ro_cu hC hown q806 rfl (by omega)) hb rfl (by decide) (by omega) rfl hrest hcs hss hd rfl hM
  · exact nd_callU (mm2 := mX20_goes) (As := [v1, v2, v3, v4]) (mc2 := 0) (ms2 := 0) (d2 := d - 1) (owner := "NapkinDeeds$Rows") (x := ⟨"NapkinDeeds$Rows", "goes", "(LNapkinDeeds$Look;III)V"⟩) (n := 4) hC rfl (ro_cu hC hown q807 rfl (by omega)) hb rfl (by decide) (by omega) rfl hrest hcs hss hd rfl hM
  · exact nd_callU (mm2 := mX20_goes) (As := [v1, v2, v3, v4]) (mc2 := 0) (ms2 := 0) (d2 := d - 1) (owner := "NapkinDeeds$Rows") (x := ⟨"NapkinDeeds$Rows", "goes", "(LNapkinDeeds$Look;III)V"⟩) (n := 4) hC rfl (ro_cu hC hown q2529 rfl (by omega)) hb rfl (by decide) (by omega) rfl hrest hcs hss hd rfl hM
end RO82
/-! ===== depth first ===== -/
def df (left : Nat) (r : List Nat) (l : List (List Nat)) : List lv_E := match left with
  | 0 => [(r, l)]
  | k + 1 => (r, l) :: (lv_mv l).flatMap (fun c => df k (r ++ [c]) (lk_fold l (c / 10) (c % 10)))
def df_left (k : Nat) (r : List Nat) (l : List (List Nat)) (j : Nat) : List lv_E := ((lv_mv l).drop j).flatMap (fun c => df k (r ++ [c]) (lk_fold l (c / 10) (c % 10)))
theorem df_s (k : Nat) (r : List Nat) (l : List (List Nat)) : df (k + 1) r l = (r, l) :: df_left k r l 0 := by simp [df, df_left]
theorem df_left_s (k : Nat) (r : List Nat) (l : List (List Nat)) {j : Nat} (h : j < 4 * (l.length - 1)) : df_left k r l j = df k (r ++ [10 * (j / 4 + 1) + j % 4]) (lk_fold l ((10 * (j / 4 + 1) + j % 4) / 10) ((10 * (j / 4 + 1) + j % 4) % 10)) ++ df_left k r l (j + 1) := by
  unfold df_left
  rw [lv_mv_drop l h, List.flatMap_cons]
theorem df_left_e (k : Nat) (r : List Nat) (l : List (List Nat)) {j : Nat} (h : 4 * (l.length - 1) ≤ j) : df_left k r l j = [] := by
  unfold df_left
  rw [List.drop_eq_nil_of_le (by rw [lv_mv_length]; exact h)]
  rfl
/-- each row is seen at a state for which Bd holds -/
def df_B {σ : Type} (see : σ → lv_E → σ) (Bd : σ → Prop) (s : σ) (xs : List lv_E) : Prop := match xs with
  | [] => True
  | x :: xs => Bd s ∧ df_B see Bd (see s x) xs
theorem df_B_app {σ : Type} (see : σ → lv_E → σ) (Bd : σ → Prop) (xs ys : List lv_E) : ∀ s, df_B see Bd s (xs ++ ys) → df_B see Bd s xs ∧ df_B see Bd (xs.foldl see s) ys := by
  induction xs with
  | nil => intro s h; exact ⟨trivial, h⟩
  | cons x xs ih => intro s h; exact ⟨⟨h.1, (ih _ h.2).1⟩, (ih _ h.2).2⟩
theorem df_B_T {σ : Type} (see : σ → lv_E → σ) (xs : List lv_E) : ∀ s, df_B see (fun _ => True) s xs := by
  induction xs with
  | nil => intro s; trivial
  | cons x xs ih => intro s; exact ⟨trivial, ih _⟩
theorem df_B_n {σ : Type} (see : σ → lv_E → σ) (μ : σ → Nat) (M : Nat) (hs : ∀ s x, μ (see s x) ≤ μ s + 1) (xs : List lv_E) : ∀ s, μ s + xs.length ≤ M → df_B see (fun s => μ s < M) s xs := by
  induction xs with
  | nil => intro s _; trivial
  | cons x xs ih =>
    intro s h
    simp only [List.length_cons] at h
    exact ⟨by show μ s < M; omega, ih _ (by have := hs s x; omega)⟩
/-- the row at rb begins with r -/
def cr_rw (h : nd_H) (rb : Nat) (r : List Nat) : Prop := ∃ f, h[rb]? = some (.inl (0, 5, .inl f)) ∧ mo_rw f r
/-- what goes leaves: the looks up to p, the row up to p -/
def cr_fr (p rb : Nat) (h h2 : nd_H) : Prop := h2.length = h.length ∧ (∀ a, 18 ≤ a → a < 27 + 9 * p → h2[a]? = h[a]?) ∧ ∀ f, h[rb]? = some (.inl (0, 5, .inl f)) → ∃ f2, h2[rb]? = some (.inl (0, 5, .inl f2)) ∧ ∀ i, i < p → f2 i = f i
theorem cr_fr.rfl {p rb : Nat} {h : nd_H} : cr_fr p rb h h := ⟨Eq.refl _, fun _ _ _ => Eq.refl _, fun f e => ⟨f, e, fun _ _ => Eq.refl _⟩⟩
theorem cr_fr.trans {p rb : Nat} {h h2 h3 : nd_H} (a : cr_fr p rb h h2) (b : cr_fr p rb h2 h3) : cr_fr p rb h h3 := by
  refine ⟨b.1.trans a.1, fun x h1 h9 => (b.2.1 x h1 h9).trans (a.2.1 x h1 h9), fun f e => ?_⟩
  obtain ⟨f2, e2, q2⟩ := a.2.2 f e
  obtain ⟨f3, e3, q3⟩ := b.2.2 f2 e2
  exact ⟨f3, e3, fun i hi => (q3 i hi).trans (q2 i hi)⟩
theorem cr_fr.weak {p rb : Nat} {h h2 : nd_H} (a : cr_fr (p + 1) rb h h2) : cr_fr p rb h h2 := by
  refine ⟨a.1, fun x h1 h9 => a.2.1 x h1 (by omega), fun f e => ?_⟩
  obtain ⟨f2, e2, q2⟩ := a.2.2 f e
  exact ⟨f2, e2, fun i hi => q2 i (by omega)⟩
theorem cr_fr.rw {p rb : Nat} {h h2 : nd_H} (a : cr_fr p rb h h2) {r : List Nat} (hp : r.length ≤ p) (hr : cr_rw h rb r) : cr_rw h2 rb r := by
  obtain ⟨f, e, q⟩ := hr
  obtain ⟨f2, e2, q2⟩ := a.2.2 f e
  exact ⟨f2, e2, fun i hi => (q2 i (by omega)).trans (q i hi)⟩
theorem ck_lk.at {h h2 : nd_H} {L : Nat} {l : List (List Nat)} (hl : ck_lk h L l) (f : ∀ a, L ≤ a → a < L + 9 → h2[a]? = h[a]?) : ck_lk h2 L l := by
  obtain ⟨w, hi, co, a, b⟩ := hl
  refine ⟨w, hi, co, ⟨?_, ?_, ?_, ?_⟩, b⟩
  · exact (f _ (by omega) (by omega)).trans a.1
  · exact (f _ (by omega) (by omega)).trans a.2.1
  · exact fun t ht => (f _ (by omega) (by omega)).trans (a.2.2.1 t ht)
  · exact (f _ (by omega) (by omega)).trans a.2.2.2
/-- WHAT A SEARCH ASKS, as a thing of its own -/
def go_see (g : nd_G) (d n fo b rb : Nat) (σ : Type) (see : σ → lv_E → σ) (Bd : σ → Prop) (Iv : σ → nd_H → Prop) : Prop :=
  ∀ (s : σ) (r : List Nat) (l : List (List Nat)) (h : nd_H) (K : nd_K), Bd s → Iv s h → ck_lk h (18 + 9 * r.length) l → lk_ok n l → cr_rw h rb r → r.length ≤ 5 →
    (∀ h2, Iv (see s (r, l)) h2 → h2.length = h.length → (∀ a, (18 ≤ a ∧ a < 72) ∨ a = rb → h2[a]? = h[a]?) → K (.inl none) h2) → ro_M g h b d [.ref (18 + 9 * r.length), .int (nI r.length), .int (nI (fo + r.length))] K
/-- what is kept of the rows seen so far says where the search lies .. -/
def go_iv (b ci rb : Nat) (σ : Type) (Iv : σ → nd_H → Prop) : Prop := ∀ s h, Iv s h → ro_at h b ci rb ∧ (∃ tp fkd fat x, cx_O h tp fkd fat x) ∧ h[17]? = some (.inl (6, 8, .inr (.inr (fun k => .ref (18 + 9 * k))))) ∧ (∀ k, k < 6 → ck_any h (18 + 9 * k)) ∧ (rb < 18 ∨ 72 ≤ rb)
/-- .. and does not rest on the looks nor on the row -/
def go_sb (rb : Nat) (σ : Type) (Iv : σ → nd_H → Prop) : Prop := ∀ s h h2, Iv s h → h2.length = h.length → (∀ a, ¬ (18 ≤ a ∧ a < 72) → a ≠ rb → h2[a]? = h[a]?) → (∀ k, k < 6 → ck_any h2 (18 + 9 * k)) → (∃ f, h2[rb]? = some (.inl (0, 5, .inl f))) → Iv s h2
section GO82
variable {g : nd_G} {K : nd_K} {h : nd_H}
theorem cr_goes (hg : nd_OK g) {n fo d0 b ci rb : Nat} {σ : Type} {see : σ → lv_E → σ} {Bd : σ → Prop} {Iv : σ → nd_H → Prop} (hn : n ≤ 6) (hfo : fo ≤ 5) (hd0 : 3 ≤ d0) (hS : ∀ d, d0 ≤ d → go_see g d n fo b rb σ see Bd Iv) (hI : go_iv b ci rb σ Iv) (hI2 : go_sb rb σ Iv) : ∀ (left d : Nat) (s : σ) (r : List Nat) (l : List (List Nat)) (h : nd_H) (K : nd_K), d0 + left + 1 ≤ d → df_B see Bd s (df left r l) → Iv s h → ck_lk h (18 + 9 * r.length) l → lk_ok n l → cr_rw h rb r → r.length + left ≤ 5 →
    (∀ h2, Iv ((df left r l).foldl see s) h2 → cr_fr r.length rb h h2 → K (.inl none) h2) → nd_M g mX20_goes d 0 0 [.ref b, .ref (18 + 9 * r.length), .int (nI r.length), .int (nI (fo + r.length)), .int (nI (r.length + left))] h K := by
  intro left
  induction left with
  | zero =>
    intro d s r l h K hd hB hIv hl hok hr hlen hk
    have hB : Bd s ∧ True := hB
    refine nd_enter hg (by decide) rfl (Nat.le_of_ble_eq_true rfl) (fun X hC => ?_)
    refine nd_aload_n hC dX20_goes_0 rfl rfl ?_
    refine nd_aload_n hC dX20_goes_1 rfl rfl ?_
    refine nd_iload_n hC dX20_goes_2 rfl ?_
    refine nd_iload_n hC dX20_goes_3 rfl ?_
    refine ro_callS hC rfl (by omega) (by exact Nat.le_of_ble_eq_true rfl) (by omega) (by omega) dX20_goes_4 (hS (d - 1) (by omega) s r l h _ hB.1 hIv hl hok hr (by omega) ?_)
    intro h2 hIv2 e1 e2
    refine nd_iload_n hC dX20_goes_7 rfl ?_
    refine nd_iload hC dX20_goes_8 rfl ?_
    first | with_reducible refine nd_icmp_neN hC (tgt := 14) (by omega) (by omega) dX20_goes_10 (by decide) (fun hq => ?_) (fun hq => ?_) | refine nd_icmp_ne hC (tgt := 14) dX20_goes_10 (by decide) (fun hq => ?_) (fun hq => ?_)
    · omega
    · refine nd_return hC rfl (by omega) (by omega) dX20_goes_13 ((hk h2 hIv2 ⟨e1, fun a h1 h9 => e2 a (Or.inl ⟨h1, by omega⟩), fun f e => ⟨f, (e2 rb (Or.inr rfl)).trans e, fun _ _ => rfl⟩⟩))
  | succ left ihL =>
    intro d s r l h K hd hB hIv hl hok hr hlen hk
    have hwd := lk_width hok
    rw [df_s] at hk hB
    refine nd_enter hg (by decide) rfl (Nat.le_of_ble_eq_true rfl) (fun X hC => ?_)
    refine nd_aload_n hC dX20_goes_0 rfl rfl ?_
    refine nd_aload_n hC dX20_goes_1 rfl rfl ?_
    refine nd_iload_n hC dX20_goes_2 rfl ?_
    refine nd_iload_n hC dX20_goes_3 rfl ?_
    refine ro_callS hC rfl (by omega) (by exact Nat.le_of_ble_eq_true rfl) (by omega) (by omega) dX20_goes_4 (hS (d - 1) (by omega) s r l h _ hB.1 hIv hl hok hr (by omega) ?_)
    intro h1 hIv1 e1 e2
    have hfr1 : cr_fr r.length rb h h1 := ⟨e1, fun a h1 h9 => e2 a (Or.inl ⟨h1, by omega⟩), fun f e => ⟨f, (e2 rb (Or.inr rfl)).trans e, fun _ _ => rfl⟩⟩
    have hB1 := hB.2
    generalize hs1 : see s (r, l) = s1 at *
    refine nd_iload_n hC dX20_goes_7 rfl ?_
    refine nd_iload hC dX20_goes_8 rfl ?_
    first | with_reducible refine nd_icmp_neN hC (tgt := 14) (by omega) (by omega) dX20_goes_10 (by decide) (fun hq => ?_) (fun hq => ?_) | refine nd_icmp_ne hC (tgt := 14) dX20_goes_10 (by decide) (fun hq => ?_) (fun hq => ?_)
    · refine nd_iconst hC (v := nI 1) (by rfl) dX20_goes_14 ?_
      refine nd_istore hC dX20_goes_15 (Nat.le_of_ble_eq_true rfl) ?_
      have L : ∀ i, i ≤ l.length - 1 → ∀ (s2 : σ) h2, df_B see Bd s2 (df_left left r l (4 * i)) → Iv s2 h2 → cr_fr r.length rb h h2 → (df_left left r l (4 * i)).foldl see s2 = (df_left left r l 0).foldl see s1 → nd_W g mX20_goes d 0 0 K X 17 [some (.ref b), some (.ref (18 + 9 * r.length)), some (.int (nI r.length)), some (.int (nI (fo + r.length))), some (.int (nI (r.length + (left + 1)))), some (.int (nI (i + 1))), none] [] h2 0 0 := by
        refine nd_for (l.length - 1) _ ?_ ?_
        · intro s2 h2 hB2 hIv2 hfr he
          rw [df_left_e left r l (Nat.le_refl _)] at he
          have hl2 : ck_lk h2 (18 + 9 * r.length) l := hl.at (fun a h1 h9 => hfr.2.1 a (by omega) (by omega))
          obtain ⟨w, hi, co, hL, rfl, hlc⟩ := id hl2
          refine nd_iload hC dX20_goes_17 rfl ?_
          refine nd_aload_n hC dX20_goes_19 rfl rfl ?_
          refine nd_getN (ci := nX4) hC in_X4 rfl hL.1 2 (by decide) q343 (fun _ z => z) rfl dX20_goes_20 ?_
          first | with_reducible refine nd_icmp_geN hC (tgt := 92) (by omega) (by omega) dX20_goes_23 (by decide) (fun hq2 => ?_) (fun hq2 => ?_) | refine nd_icmp_ge hC (tgt := 92) dX20_goes_23 (by decide) (fun hq2 => ?_) (fun hq2 => ?_)
          · have hI9 : Iv (List.foldl see s ((r, l) :: df_left left r l 0)) h2 := by
              rw [List.foldl_cons, hs1, ← he]
              exact hIv2
            refine nd_return hC rfl (by omega) (by omega) dX20_goes_92 ((hk h2 hI9 hfr))
          · omega
        · intro i hi ih s2 h2 hB2 hIv2 hfr he
          have hl2 : ck_lk h2 (18 + 9 * r.length) l := hl.at (fun a h1 h9 => hfr.2.1 a (by omega) (by omega))
          obtain ⟨w, hi9, co, hL, rfl, hlc⟩ := id hl2
          refine nd_iload hC dX20_goes_17 rfl ?_
          refine nd_aload_n hC dX20_goes_19 rfl rfl ?_
          refine nd_getN (ci := nX4) hC in_X4 rfl hL.1 2 (by decide) q343 (fun _ z => z) rfl dX20_goes_20 ?_
          first | with_reducible refine nd_icmp_geN hC (tgt := 92) (by omega) (by omega) dX20_goes_23 (by decide) (fun hq2 => ?_) (fun hq2 => ?_) | refine nd_icmp_ge hC (tgt := 92) dX20_goes_23 (by decide) (fun hq2 => ?_) (fun hq2 => ?_)
          · omega
          refine nd_iconst hC (v := nI 0) (by rfl) dX20_goes_26 ?_
          refine nd_istore hC dX20_goes_27 (Nat.le_of_ble_eq_true rfl) ?_
          have L2 : ∀ w, w ≤ 4 → ∀ (s2 : σ) h2, df_B see Bd s2 (df_left left r l (4 * i + w)) → Iv s2 h2 → cr_fr r.length rb h h2 → (df_left left r l (4 * i + w)).foldl see s2 = (df_left left r l 0).foldl see s1 → nd_W g mX20_goes d 0 0 K X 29 [some (.ref b), some (.ref (18 + 9 * r.length)), some (.int (nI r.length)), some (.int (nI (fo + r.length))), some (.int (nI (r.length + (left + 1)))), some (.int (nI (i + 1))), some (.int (nI w))] [] h2 0 0 := by
            refine nd_for 4 _ ?_ ?_
            · intro s2 h2 hB2 hIv2 hfr he
              refine nd_iload hC dX20_goes_29 rfl ?_
              refine nd_iconst hC (v := nI 4) (by rfl) dX20_goes_31 ?_
              first | with_reducible refine nd_icmp_geN hC (tgt := 86) (by omega) (by omega) dX20_goes_32 (by decide) (fun hq3 => ?_) (fun hq3 => ?_) | refine nd_icmp_ge hC (tgt := 86) dX20_goes_32 (by decide) (fun hq3 => ?_) (fun hq3 => ?_)
              · first | with_reducible refine nd_iincN hC dX20_goes_86 rfl (Nat.le_of_ble_eq_true rfl) ?_ | refine nd_iinc hC dX20_goes_86 rfl rfl (Nat.le_of_ble_eq_true rfl) ?_
                refine nd_goto hC (tgt := 17) dX20_goes_89 (by decide) ?_
                refine nd_drop 6 ?_
                exact ih s2 h2 hB2 hIv2 hfr he
              · omega
            · intro w hw4 ih2 s2 h2 hB2 hIv2 hfr he
              obtain ⟨hro, ⟨tp, fkd, fat, x, hO⟩, h17, hany, hrb⟩ := hI s2 h2 hIv2
              unfold cx_O at hO
              have hl2 : ck_lk h2 (18 + 9 * r.length) l := hl.at (fun a h1 h9 => hfr.2.1 a (by omega) (by omega))
              obtain ⟨f, hf, hfr2⟩ := hfr.rw (Nat.le_refl _) hr
              refine nd_iload hC dX20_goes_29 rfl ?_
              refine nd_iconst hC (v := nI 4) (by rfl) dX20_goes_31 ?_
              first | with_reducible refine nd_icmp_geN hC (tgt := 86) (by omega) (by omega) dX20_goes_32 (by decide) (fun hq3 => ?_) (fun hq3 => ?_) | refine nd_icmp_ge hC (tgt := 86) dX20_goes_32 (by decide) (fun hq3 => ?_) (fun hq3 => ?_)
              · omega
              refine nd_aload_n hC dX20_goes_35 rfl rfl ?_
              refine ro_row hC rfl hro dX20_goes_36 ?_
              refine nd_iload_n hC dX20_goes_39 rfl ?_
              refine nd_bipush hC (v := nI 10) (by rfl) dX20_goes_40 ?_
              refine nd_iload hC dX20_goes_42 rfl ?_
              first | with_reducible refine nd_imulN hC dX20_goes_44 ?_ | refine nd_imul hC dX20_goes_44 ?_
              refine nd_iload hC dX20_goes_45 rfl ?_
              first | with_reducible refine nd_iaddN hC dX20_goes_47 ?_ | refine nd_iadd hC dX20_goes_47 ?_
              generalize hcc : 10 * (i + 1) + w = c
              refine nd_iastoreN hC hf (by omega) (by decide) dX20_goes_48 ?_
              have hst : df_left left r l (4 * i + w) = df left (r ++ [c]) (lk_fold l (i + 1) w) ++ df_left left r l (4 * i + (w + 1)) := by
                have e := df_left_s left r l (j := 4 * i + w) (by omega)
                rw [show (4 * i + w) / 4 = i by omega, show (4 * i + w) % 4 = w by omega, hcc, show c / 10 = i + 1 by omega, show c % 10 = w by omega] at e
                exact e
              rw [hst, List.foldl_append] at he
              rw [hst] at hB2
              have hB3 := df_B_app see Bd _ _ s2 hB2
              have hset : ∀ a, a ≠ rb → (h2.set rb (.inl (0, 5, .inl (upd f r.length (nI c)))))[a]? = h2[a]? := fun a ha => List.getElem?_set_ne (Ne.symm ha)
              have hsrb : (h2.set rb (.inl (0, 5, .inl (upd f r.length (nI c)))))[rb]? = some (.inl (0, 5, .inl (upd f r.length (nI c)))) := by rw [List.getElem?_set_self (nd_get_lt hf)]
              have hlen3 : (h2.set rb (.inl (0, 5, .inl (upd f r.length (nI c))))).length = h2.length := List.length_set
              generalize h2.set rb (.inl (0, 5, .inl (upd f r.length (nI c)))) = h3 at *
              have hIv3 : Iv s2 h3 := hI2 s2 h2 h3 hIv2 hlen3 (fun a _ ha => hset a ha) (fun k hk => by
                obtain ⟨w9, hi8, co8, a8⟩ := hany k hk
                exact ⟨w9, hi8, co8, (hset _ (by omega)).trans a8.1, (hset _ (by omega)).trans a8.2.1, fun t ht => (hset _ (by omega)).trans (a8.2.2.1 t ht), (hset _ (by omega)).trans a8.2.2.2⟩) ⟨_, hsrb⟩
              have hfr3 : cr_fr r.length rb h h3 := hfr.trans ⟨hlen3, fun a h1 h9 => hset a (by omega), fun f' e' => by
                rw [hf] at e'
                cases e'
                exact ⟨_, hsrb, fun i hi => upd_n (by omega)⟩⟩
              have hr3 : cr_rw h3 rb (r ++ [c]) := by
                refine ⟨_, hsrb, fun i hi => ?_⟩
                by_cases e : i = r.length
                · subst e; rw [upd_s]; simp
                · have hi2 : i < r.length := by simp at hi; omega
                  rw [upd_n e, hfr2 i hi2]
                  simp [List.getD_eq_getElem?_getD, List.getElem?_append_left hi2]
              obtain ⟨hro, ⟨tp, fkd, fat, x, hO⟩, h17, hany, -⟩ := hI s2 h3 hIv3
              unfold cx_O at hO
              have hl3 : ck_lk h3 (18 + 9 * r.length) l := hl.at (fun a h1 h9 => hfr3.2.1 a (by omega) (by omega))
              obtain ⟨w3, hi3, co3, hL3⟩ := id (hany (r.length + 1) (by omega))
              refine nd_aload_n hC dX20_goes_49 rfl rfl ?_
              refine nd_aload_n hC dX20_goes_50 rfl rfl ?_
              refine ro_this hC rfl hro dX20_goes_51 ?_
              refine nd_getN (ci := nX1) hC in_X1 rfl hO 2 (by decide) q386 (fun _ z => z) rfl dX20_goes_54 ?_
              refine nd_iload_n hC dX20_goes_57 rfl ?_
              refine nd_iconst hC (v := nI 1) (by rfl) dX20_goes_58 ?_
              first | with_reducible refine nd_iaddN hC dX20_goes_59 ?_ | refine nd_iadd hC dX20_goes_59 ?_
              refine nd_aaloadN hC rfl rfl h17 (by omega) (by omega) dX20_goes_60 ?_
              refine nd_aload_n hC dX20_goes_61 rfl rfl ?_
              refine nd_iload hC dX20_goes_62 rfl ?_
              refine nd_iload hC dX20_goes_64 rfl ?_
              refine nd_callV (mm2 := mX4_folded) (As := [_, _, _]) (mc2 := 0) (ms2 := 0) (d2 := d - 1) hC rfl lkX20_62 ⟨rfl, lmX4_folded⟩ (hL3.1) rfl (Nat.le_of_ble_eq_true rfl) (by omega) rfl (by exact Nat.le_of_ble_eq_true rfl) (by omega) (by omega) dX20_goes_66 rfl ((cl_folded hg (by omega) (hany (r.length + 1) (by omega)) hl3 (by omega) hok hn (by omega) (by omega) hw4 (fun h4 fr4 hl4 => ?_)))
              have hany4 : ∀ k, k < 6 → ck_any h4 (18 + 9 * k) := fun k hk => by
                by_cases e : k = r.length + 1
                · subst e; exact hl4.any
                · exact (hany k hk).fr fr4 (by omega)
              have hIv4 : Iv s2 h4 := hI2 s2 h3 h4 hIv3 fr4.1 (fun a ha _ => fr4.2 a (by omega)) hany4 ⟨_, (fr4.2 rb (by omega)).trans hsrb⟩
              have hfr4 : cr_fr r.length rb h h4 := hfr3.trans ⟨fr4.1, fun a h1 h9 => fr4.2 a (by omega), fun f' e' => ⟨f', (fr4.2 rb (by omega)).trans e', fun _ _ => rfl⟩⟩
              have hr4 : cr_rw h4 rb (r ++ [c]) := by
                obtain ⟨f', e', q'⟩ := hr3
                exact ⟨f', (fr4.2 rb (by omega)).trans e', q'⟩
              have hok4 : lk_ok n (lk_fold l (i + 1) w) := lk_fold_ok hok (by omega) (by omega)
              have hro4 := (hI s2 h4 hIv4).1
              refine nd_iload_n hC dX20_goes_69 rfl ?_
              refine nd_iconst hC (v := nI 1) (by rfl) dX20_goes_70 ?_
              first | with_reducible refine nd_iaddN hC dX20_goes_71 ?_ | refine nd_iadd hC dX20_goes_71 ?_
              refine nd_iload_n hC dX20_goes_72 rfl ?_
              refine nd_iconst hC (v := nI 1) (by rfl) dX20_goes_73 ?_
              first | with_reducible refine nd_iaddN hC dX20_goes_74 ?_ | refine nd_iadd hC dX20_goes_74 ?_
              refine nd_iload hC dX20_goes_75 rfl ?_
              refine ro_callG hC rfl hro4 (by omega) (by exact Nat.le_of_ble_eq_true rfl) (by omega) (by omega) dX20_goes_77 ?_
              have el : (r ++ [c]).length = r.length + 1 := by simp
              have hM := ihL (d - 1) s2 (r ++ [c]) (lk_fold l (i + 1) w) h4 (nd_Kc g mX20_goes d 0 0 K X 77 3 [some (.ref b), some (.ref (18 + 9 * r.length)), some (.int (nI r.length)), some (.int (nI (fo + r.length))), some (.int (nI (r.length + (left + 1)))), some (.int (nI (i + 1))), some (.int (nI w))] [] 0 0) (by omega) hB3.1 hIv4 (by rw [el]; exact hl4) hok4 hr4 (by rw [el]; omega)
              rw [el, show r.length + 1 + left = r.length + (left + 1) by omega, show fo + (r.length + 1) = fo + r.length + 1 by omega] at hM
              refine hM ?_
              intro h5 hIv5 hfr5
              first | with_reducible refine nd_iincN hC dX20_goes_80 rfl (Nat.le_of_ble_eq_true rfl) ?_ | refine nd_iinc hC dX20_goes_80 rfl rfl (Nat.le_of_ble_eq_true rfl) ?_
              refine nd_goto hC (tgt := 29) dX20_goes_83 (by decide) ?_
              exact ih2 _ h5 hB3.2 hIv5 (hfr4.trans hfr5.weak) he
          exact L2 0 (by omega) s2 h2 hB2 hIv2 hfr he
      exact L 0 (Nat.zero_le _) s1 h1 hB1 hIv1 hfr1 rfl
    · omega
end GO82



set_option maxRecDepth 100000
/-! ===== rows of rows, made at once ===== -/
theorem ao_spec {args : Array Value} {s : State} {t : FieldType} (h : (Cond.arrayOver (.array t)).before args s = true) :
    ∃ comp c k, s.vm.findClass (FieldType.array t).toString = some comp ∧ (s.vm.classes.findIdx? fun x => match x.kind with | .array component _ => component == comp | _ => false) = some c ∧ s.vm.classes[c]? = some k ∧ k.kind = .array comp (.array t) ∧ s.vm.findClass ("[" ++ (FieldType.array t).toString) = some c := by
  simp only [Cond.before, Cond.holds, Cond.value, beq_iff_eq] at h
  cases hc : s.vm.findClass (FieldType.array t).toString with
  | none => simp [hc] at h
  | some comp =>
    simp only [hc, Option.bind_some, Option.bind_eq_some_iff, Option.map_eq_some_iff] at h
    obtain ⟨c, hi, k, hk, hb⟩ := h
    obtain ⟨hlt, hp, -⟩ := Array.findIdx?_eq_some_iff_getElem.mp hi
    have hkk : s.vm.classes[c] = k := (Array.getElem?_eq_some_iff.mp hk).2
    rw [hkk] at hp
    cases hkind : k.kind with
    | array component ty =>
      rw [hkind] at hb hp
      simp at hb hp
      exact ⟨comp, c, k, rfl, hi, hk, by rw [hkind, hp, hb.1], hb.2⟩
    | _ => rw [hkind] at hb; simp at hb
theorem ao_moved {args args' : Array Value} {s U : State} {t : FieldType} (hal : s.vm.Alike U.vm) (h : (Cond.arrayOver (.array t)).before args s = true) : (Cond.arrayOver (.array t)).before args' U = true := by
  obtain ⟨comp, c, k, hcomp, hidx, hk, hkind, hname⟩ := ao_spec h
  obtain ⟨k', hk', hek'⟩ := hal.2.2 _ _ hk
  have hkind' : k'.kind = .array comp (.array t) := by rw [hek']; exact hkind
  have hname' : U.vm.findClass ("[" ++ (FieldType.array t).toString) = some c := by rw [hal.findClass]; exact hname
  have hcomp' : U.vm.findClass (FieldType.array t).toString = some comp := by rw [hal.findClass]; exact hcomp
  simp only [Cond.before, Cond.holds, Cond.value, hcomp', Option.bind_some, beq_iff_eq]
  rw [Option.bind_eq_some_iff]
  have hi : (U.vm.classes.findIdx? fun (x : Class) => match x.kind with | .array component _ => component == comp | _ => false) = some c := by
    have b1 := va_idx_bare U.vm comp
    have b2 := va_idx_bare s.vm comp
    have e : U.vm.bare = s.vm.bare := by first | exact hal.bare_eq | exact hal.bare_eq.symm
    rw [e] at b1
    exact b1.symm.trans (b2.trans hidx)
  refine ⟨c, hi, ?_⟩
  simp [hk', hkind', hname']
theorem nd_R.many {g : nd_G} {h cs : nd_H} {H H1 : Heap} (hR : nd_R g h H) (z : H1.size = H.size + cs.length) (oq : ∀ q : Nat, q < H.size → H1[q]? = H[q]?) (hn : ∀ j c, cs[j]? = some c → nd_at g (h.length + j) c H1) : nd_R g (h ++ cs) H1 := by
  have hz := hR.1
  refine ⟨by rw [List.length_append]; omega, fun q hq => (oq q (by omega)).trans (hR.2.1 q hq), fun k c2 hk => ?_⟩
  by_cases e : k < h.length
  · rw [List.getElem?_append_left e] at hk
    exact (hR.2.2 k c2 hk).kept (oq _ (by omega))
  · rw [List.getElem?_append_right (by omega)] at hk
    have := hn (k - h.length) c2 hk
    rw [show h.length + (k - h.length) = k by omega] at this
    exact this
theorem mu_outer (c : ClassId) (N h0 : Nat) : Jvm.Free.Multi.outerC c N h0 N = arrV c N (fun j => .ref (h0 + 1 + j)) := by
  have key : ∀ i, i ≤ N → Jvm.Free.Multi.outerC c N h0 i = arrV c N (fun j => if j < i then .ref (h0 + 1 + j) else .null) := by
    intro i
    induction i with
    | zero =>
      intro _
      unfold Jvm.Free.Multi.outerC arrV
      congr 1
      apply Array.ext
      · simp
      · intro k h1 h2
        simp
    | succ i ih =>
      intro hi
      show (Jvm.Free.Multi.outerC c N h0 i).setSlot i (.ref (h0 + 1 + i)) = _
      rw [ih (by omega), arrV_store]
      congr 1
      funext j
      unfold updV
      by_cases e : j = i
      · rw [if_pos e, if_pos (by omega), e]
      · rw [if_neg e]
        show (if j < i then _ else _) = _
        by_cases e2 : j < i
        · rw [if_pos e2, if_pos (by omega)]
        · rw [if_neg e2, if_neg (by omega)]
  rw [key N (Nat.le_refl _)]
  unfold arrV
  congr 1
  apply Array.ext
  · simp
  · intro k h1 h2
    simp at h1
    simp [h1]
theorem mu_inner (c : ClassId) (M : Nat) : Jvm.Free.Multi.innerC c M (.int 0) = arrV c M (fun _ => .int 0) := by
  unfold Jvm.Free.Multi.innerC arrV
  congr 1
  apply Array.ext
  · simp
  · intro k h1 h2
    simp
section ND89
variable {g : nd_G} {mm : nd_Mt} {d mc ms : Nat} {K : nd_K} {X : nd_X} {pc : Nat} {lv : List (Option Value)} {st : List Value} {h : nd_H} {cs ss : Nat}
theorem nd_multi (hC : nd_Cx g mm X) {index n k : Nat} (hlink : Cond.classLink mm.1.cls index "[[I" ∈ lw_all) (hn : n ≤ 1000) (hk : k ≤ 1000) (hd : decode mm.2.1 pc = .ok (.multianewarray index 2, 4)) (hcells : cs + (1 + n) ≤ mc) (hslots : ss + (n + n * k) ≤ ms) (kk : nd_W g mm d mc ms K X (pc + 4) lv (.ref h.length :: st) (h ++ (.inl (5, n, .inr (.inr (fun j => .ref (h.length + 1 + j)))) :: List.replicate n (.inl (0, k, .inl (fun _ => 0))))) (cs + 1 + n) (ss + n + n * k)) : nd_W g mm d mc ms K X pc lv (.int (nI k) :: .int (nI n) :: st) h cs ss := by
  intro H ls locs hl hR hS T hT XX
  obtain ⟨b0, hw0, -⟩ := hC.ok.2.2.1
  have hov : (Cond.arrayOver (.array .int)).before X.2.2.2.2.1 X.2.2.1 = true := ao_moved hC.amb.2.2.1 (hw0 _ q331)
  have eN : (nI n).toNatClampNeg = n := nI_cl (by omega)
  have eK : (nI k).toNatClampNeg = k := nI_cl (by omega)
  have n1 : ∀ m, m ≤ 1000 → ¬ (nI m < 0) := fun m hm => by rw [Int32.lt_iff_toInt_lt, nI_toInt (by omega), Int32.toInt_zero]; omega
  obtain ⟨vm₁, cA, comp, hW, hfA, hfC, hO, hI, X1, st1⟩ := XX.multianewarray2F hC.1 (own := mm.1.cls) (index := index) (ty := .int) hC.own (hC.hts _ hlink) hov (hC.hts _ q322) (g := F0 X.2.2.2.1 pc ls (.int (nI k) :: .int (nI n) :: st.map (nd_v g))) rfl (by rw [hC.2.1]; exact hd) (n := nI n) (k := nI k) (rest := st.map (nd_v g)) rfl (n1 n hn) (n1 k hk) (by rw [eN]; omega) (by rw [eK]; show k * 4 ≤ _; omega) (by rw [eK]; omega) rfl rfl (by rw [eN]; exact hcells) (by rw [eN, eK]; exact hslots)
  rw [eN, eK] at X1 st1
  obtain ⟨f1, f2, f3, f4⟩ := Jvm.Free.Multi.fill_facts (T.setVm vm₁) cA comp n k (defaultValue .int) n
  have fo := fun (a : Addr) (ha : a < T.heap.size) => Jvm.Free.Multi.fill_old (T.setVm vm₁) cA comp n k (defaultValue .int) (a := a) ha n
  have fi := fun (j : Nat) (hj : j < n) => Jvm.Free.Multi.fill_inner (T.setVm vm₁) cA comp n k (defaultValue .int) n j hj
  have hz := hR.1
  have hTz : (T.setVm vm₁).heap.size = H.size := by rw [← hT]; rfl
  have hTz2 : T.heap.size = H.size := by rw [hT]
  have ecA : cA = nd_tc g 5 := Option.some.inj (hfA.symm.trans (nd_ara hC (k := 5) (t := .array .int) rfl))
  have ecm : comp = nd_tc g 0 := Option.some.inj (hfC.symm.trans (nd_ara hC (k := 0) (t := .int) rfl))
  have oq : ∀ q : Nat, q < H.size → (Jvm.Free.Multi.fill (T.setVm vm₁) cA comp n k (defaultValue .int) n).heap[q]? = H[q]? := fun q hq => by
    rw [fo q (by show q < T.heap.size; rw [hTz2]; exact hq), ← hT]; rfl
  have R1 : nd_R g (h ++ (.inl (5, n, .inr (.inr (fun j => .ref (h.length + 1 + j)))) :: List.replicate n (.inl (0, k, .inl (fun _ => 0))))) (Jvm.Free.Multi.fill (T.setVm vm₁) cA comp n k (defaultValue .int) n).heap := by
    refine hR.many (by rw [f1, hTz, List.length_cons, List.length_replicate]; omega) oq (fun j c hj => ?_)
    cases j with
    | zero =>
      have hj : some _ = some c := hj
      cases hj
      show _ = some (arrV (nd_tc g 5) n (fun j => .ref (nd_z g + (h.length + 1 + j))))
      have e9 : (T.setVm vm₁).heap.size = nd_z g + h.length := hTz.trans hz
      rw [Nat.add_zero, ← e9, f2, mu_outer, ecA]
      refine congrArg some (congrArg (arrV (nd_tc g 5) n) ?_)
      funext j
      refine congrArg Value.ref ?_
      show (T.setVm vm₁).heap.size + 1 + j = _
      rw [e9]
      omega
    | succ j =>
      have hj : (List.replicate n (.inl (0, k, .inl (fun _ => 0)) : nd_C))[j]? = some c := hj
      rw [List.getElem?_replicate] at hj
      by_cases q : j < n
      · rw [if_pos q] at hj
        cases hj
        show _ = some (arrV (nd_tc g 0) k (fun _ => .int 0))
        rw [show nd_z g + (h.length + (j + 1)) = (T.setVm vm₁).heap.size + 1 + j by rw [hTz, hz]; omega, fi j q, ← ecm]
        exact congrArg some (mu_inner _ _)
      · rw [if_neg q] at hj; cases hj
  obtain ⟨t, a1, b1⟩ := kk _ ls locs hl R1 (nd_S.grow hS (by rw [f1, hTz]; omega) oq) _ rfl X1
  refine ⟨t, st1 t ?_, b1⟩
  rw [hTz2, hz]
  exact a1
end ND89


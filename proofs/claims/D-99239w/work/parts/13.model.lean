set_option maxRecDepth 100000
/-! ===== the reference (NapkinDeedsModel): object at 101, its arrays at 102..121; A: int arrays, F: int fields, B: long arrays, by the number of the field ===== -/
def mo_fl (F : Nat → Int32) : List Value := [.ref 102, .ref 103, .ref 104, .ref 105, .int (F 4), .ref 106, .int (F 6), .int (F 7), .int (F 8), .int (F 9), .int (F 10), .int (F 11), .int (F 12), .int (F 13), .int (F 14), .int (F 15), .int (F 16), .int (F 17), .int (F 18), .ref 107, .ref 108, .ref 109, .ref 110, .ref 111, .int (F 24), .ref 112, .ref 113, .ref 114, .int (F 28), .int (F 29), .int (F 30), .int (F 31), .int (F 32), .int (F 33), .int (F 34), .ref 115, .ref 116, .int (F 37), .ref 117, .ref 118, .ref 119, .ref 120, .ref 121]
def mo_ad (k : Nat) : Nat := match k with
  | 0 => 102
  | 1 => 103
  | 2 => 104
  | 3 => 105
  | 5 => 106
  | 19 => 107
  | 20 => 108
  | 21 => 109
  | 22 => 110
  | 23 => 111
  | 25 => 112
  | 26 => 113
  | 27 => 114
  | 35 => 115
  | 36 => 116
  | 38 => 117
  | 39 => 118
  | 40 => 119
  | 41 => 120
  | 42 => 121
  | _ => 0
def mo_ln (k : Nat) : Nat := match k with
  | 0 => 2912
  | 1 => 2912
  | 2 => 8736
  | 3 => 3
  | 5 => 900
  | 19 => 473
  | 20 => 6
  | 21 => 64
  | 22 => 8
  | 23 => 18
  | 25 => 5
  | 26 => 5
  | 27 => 4
  | 35 => 65536
  | 36 => 65536
  | 38 => 6
  | 39 => 600
  | 40 => 4
  | 41 => 4
  | 42 => 120
  | _ => 0
def mo_ty (k : Nat) : Nat := match k with
  | 0 => 0
  | 1 => 0
  | 2 => 0
  | 3 => 4
  | 5 => 0
  | 19 => 0
  | 20 => 0
  | 21 => 0
  | 22 => 0
  | 23 => 0
  | 25 => 0
  | 26 => 0
  | 27 => 0
  | 35 => 1
  | 36 => 0
  | 38 => 0
  | 39 => 0
  | 40 => 0
  | 41 => 0
  | 42 => 1
  | _ => 0
def mo_ia (k : Nat) : Bool := k == 0 || k == 1 || k == 2 || k == 3 || k == 5 || k == 19 || k == 20 || k == 21 || k == 22 || k == 23 || k == 25 || k == 26 || k == 27 || k == 36 || k == 38 || k == 39 || k == 40 || k == 41
def mo_la (k : Nat) : Bool := k == 35 || k == 42
abbrev f_known : Nat := 0
abbrev f_telling : Nat := 1
abbrev f_images : Nat := 2
abbrev f_isImage : Nat := 3
abbrev f_thrown : Nat := 4
abbrev f_tape : Nat := 5
abbrev f_taped : Nat := 6
abbrev f_length : Nat := 7
abbrev f_head : Nat := 8
abbrev f_begin : Nat := 9
abbrev f_token : Nat := 10
abbrev f_value : Nat := 11
abbrev f_bad : Nat := 12
abbrev f_badPlace : Nat := 13
abbrev f_faultKind : Nat := 14
abbrev f_faultPlace : Nat := 15
abbrev f_deep : Nat := 16
abbrev f_lawMany : Nat := 17
abbrev f_lawAt : Nat := 18
abbrev f_lies : Nat := 19
abbrev f_places : Nat := 20
abbrev f_lawStack : Nat := 21
abbrev f_asked : Nat := 22
abbrev f_aside : Nat := 23
abbrev f_state : Nat := 24
abbrev f_row : Nat := 25
abbrev f_bestRow : Nat := 26
abbrev f_likedNow : Nat := 27
abbrev f_askedWhat : Nat := 28
abbrev f_from : Nat := 29
abbrev f_rowMany : Nat := 30
abbrev f_rowBest : Nat := 31
abbrev f_bestMany : Nat := 32
abbrev f_askedTray : Nat := 33
abbrev f_sureSet : Nat := 34
abbrev f_met : Nat := 35
abbrev f_metBy : Nat := 36
abbrev f_turn : Nat := 37
abbrev f_layers : Nat := 38
abbrev f_beneathHow : Nat := 39
abbrev f_tSort : Nat := 40
abbrev f_tMany : Nat := 41
abbrev f_numbers : Nat := 42
def mo_W (h0 : nd_H) (A : Nat → Nat → Int32) (F : Nat → Int32) (B : Nat → Nat → Int64) (h : nd_H) : Prop :=
  (h.length = h0.length ∧ ∀ a, (a < 101 ∨ 121 < a) → h[a]? = h0[a]?) ∧ h[101]? = some (.inr (nX7, mo_fl F)) ∧ (∀ k, mo_ia k = true → h[mo_ad k]? = some (.inl (mo_ty k, mo_ln k, .inl (A k)))) ∧ ∀ k, mo_la k = true → h[mo_ad k]? = some (.inl (1, mo_ln k, .inr (.inl (B k))))
theorem mo_dom {k : Nat} (h : mo_ia k = true ∨ mo_la k = true) : k < 43 := by
  simp only [mo_ia, mo_la, Bool.or_eq_true, beq_iff_eq] at h
  omega
theorem mo_ad_in0 : (List.range 43).all (fun k => !(mo_ia k || mo_la k) || (decide (102 ≤ mo_ad k) && decide (mo_ad k ≤ 121))) = true := by decide +kernel
theorem mo_ad_in {k : Nat} (h : mo_ia k = true ∨ mo_la k = true) : 102 ≤ mo_ad k ∧ mo_ad k ≤ 121 := by
  have h1 := List.all_eq_true.mp mo_ad_in0 k (List.mem_range.mpr (mo_dom h))
  rcases h with h | h <;> simpa [h] using h1
theorem mo_inj0 : (List.range 43).all (fun a => (List.range 43).all (fun b => !((mo_ia a || mo_la a) && (mo_ia b || mo_la b)) || mo_ad a != mo_ad b || a == b)) = true := by decide +kernel
theorem mo_inj {a b : Nat} (ha : mo_ia a = true ∨ mo_la a = true) (hb : mo_ia b = true ∨ mo_la b = true) (e : mo_ad a = mo_ad b) : a = b := by
  have h1 := List.all_eq_true.mp (List.all_eq_true.mp mo_inj0 a (List.mem_range.mpr (mo_dom ha))) b (List.mem_range.mpr (mo_dom hb))
  simp only [Bool.or_eq_true, Bool.not_eq_true', Bool.and_eq_false_iff, bne_iff_ne, beq_iff_eq, Bool.or_eq_false_iff] at h1
  rcases h1 with (h1 | h1) | h1
  · rcases h1 with ⟨x, y⟩ | ⟨x, y⟩
    · rcases ha with z | z <;> simp_all
    · rcases hb with z | z <;> simp_all
  · exact absurd e h1
  · exact h1
theorem mo_W.put {h0 h : nd_H} {A : Nat → Nat → Int32} {F F2 : Nat → Int32} {B : Nat → Nat → Int64} (hw : mo_W h0 A F B h) : mo_W h0 A F2 B (h.set 101 (.inr (nX7, mo_fl F2))) := by
  obtain ⟨⟨l1, fr⟩, o1, ia, la⟩ := hw
  refine ⟨⟨by rw [List.length_set]; exact l1, fun a ha => ?_⟩, ?_, fun k hk => ?_, fun k hk => ?_⟩
  · rw [List.getElem?_set_ne (by omega)]; exact fr a ha
  · rw [List.getElem?_set_self (List.getElem?_eq_some_iff.mp o1).1]
  · have := mo_ad_in (Or.inl hk); rw [List.getElem?_set_ne (by omega)]; exact ia k hk
  · have := mo_ad_in (Or.inr hk); rw [List.getElem?_set_ne (by omega)]; exact la k hk
theorem mo_W.setA {h0 h : nd_H} {A : Nat → Nat → Int32} {F : Nat → Int32} {B : Nat → Nat → Int64} (hw : mo_W h0 A F B h) {k : Nat} (hk : mo_ia k = true) (f : Nat → Int32) : mo_W h0 (va_up A k f) F B (h.set (mo_ad k) (.inl (mo_ty k, mo_ln k, .inl f))) := by
  obtain ⟨⟨l1, fr⟩, o1, ia, la⟩ := hw
  have hin := mo_ad_in (Or.inl hk)
  refine ⟨⟨by rw [List.length_set]; exact l1, fun a ha => ?_⟩, ?_, fun j hj => ?_, fun j hj => ?_⟩
  · rw [List.getElem?_set_ne (by omega)]; exact fr a ha
  · rw [List.getElem?_set_ne (by omega)]; exact o1
  · by_cases e : j = k
    · subst e
      rw [List.getElem?_set_self (List.getElem?_eq_some_iff.mp (ia j hj)).1]
      simp [va_up]
    · rw [List.getElem?_set_ne (fun z => e (mo_inj (Or.inl hj) (Or.inl hk) z.symm))]
      simp only [va_up, e, if_false]
      exact ia j hj
  · by_cases e : j = k
    · subst e
      simp [mo_ia, mo_la] at hk hj
      omega
    · rw [List.getElem?_set_ne (fun z => e (mo_inj (Or.inr hj) (Or.inl hk) z.symm))]
      exact la j hj
theorem mo_W.setB {h0 h : nd_H} {A : Nat → Nat → Int32} {F : Nat → Int32} {B : Nat → Nat → Int64} (hw : mo_W h0 A F B h) {k : Nat} (hk : mo_la k = true) (f : Nat → Int64) : mo_W h0 A F (va_up B k f) (h.set (mo_ad k) (.inl (1, mo_ln k, .inr (.inl f)))) := by
  obtain ⟨⟨l1, fr⟩, o1, ia, la⟩ := hw
  have hin := mo_ad_in (Or.inr hk)
  refine ⟨⟨by rw [List.length_set]; exact l1, fun a ha => ?_⟩, ?_, fun j hj => ?_, fun j hj => ?_⟩
  · rw [List.getElem?_set_ne (by omega)]; exact fr a ha
  · rw [List.getElem?_set_ne (by omega)]; exact o1
  · by_cases e : j = k
    · subst e
      simp [mo_ia, mo_la] at hk hj
      omega
    · rw [List.getElem?_set_ne (fun z => e (mo_inj (Or.inl hj) (Or.inr hk) z.symm))]
      exact ia j hj
  · by_cases e : j = k
    · subst e
      rw [List.getElem?_set_self (List.getElem?_eq_some_iff.mp (la j hj)).1]
      simp [va_up]
    · rw [List.getElem?_set_ne (fun z => e (mo_inj (Or.inr hj) (Or.inr hk) z.symm))]
      simp only [va_up, e, if_false]
      exact la j hj
theorem mo_nm : nd_nm TX7 43 = true := by decide +kernel
section MO
variable {g : nd_G} {mm : nd_Mt} {d mc ms : Nat} {K : nd_K} {X : nd_X} {pc : Nat} {lv : List (Option Value)} {st : List Value} {h h0 : nd_H} {cs ss : Nat} {A : Nat → Nat → Int32} {F : Nat → Int32} {B : Nat → Nat → Int64}
/-- an int field is put -/
theorem mo_put (hC : nd_Cx g mm X) (hw : mo_W h0 A F B h) {index : Nat} {x : Int32} (k : Nat) (hk : k < 43) (hlink : Cond.fieldLink mm.1.cls index "NapkinDeedsModel" (TX7 k).2.1 (TX7 k).2.2.1 ∈ lw_all) (ho : (TX7 k).1 = "NapkinDeedsModel") (hty : tyX7 k = .int) (hfin : (TX7 k).2.2.2 = false) (hs : (mo_fl F).set k (.int x) = mo_fl (va_up F k x)) (hd : decode mm.2.1 pc = .ok (.putfield index, 3)) (kk : ∀ h2, mo_W h0 A (va_up F k x) B h2 → nd_W g mm d mc ms K X (pc + 3) lv st h2 cs ss) : nd_W g mm d mc ms K X pc lv (.int x :: .ref 101 :: st) h cs ss := by
  refine nd_put (ci := nX7) (fs := mo_fl F) hC in_X7 rfl hw.2.1 k hk tyX7 tyX7_ok mo_nm hlink (by rw [ho]; exact fun _ z => z) hfin (by rw [hty]; rfl) (by rw [hty]; rfl) (by show k < 43; exact hk) hd ?_
  rw [hs]
  exact kk _ hw.put
theorem mo_iast (hC : nd_Cx g mm X) (hw : mo_W h0 A F B h) {x : Int32} (k : Nat) {b j : Nat} (hk : mo_ia k = true) (ht : mo_ty k = 0) (hb : mo_ad k = b) (hj : j < mo_ln k) (hn : mo_ln k ≤ 2147483647) (hd : decode mm.2.1 pc = .ok (.iastore, 1)) (kk : ∀ h2, mo_W h0 (va_up A k (upd (A k) j x)) F B h2 → nd_W g mm d mc ms K X (pc + 1) lv st h2 cs ss) : nd_W g mm d mc ms K X pc lv (.int x :: .int (nI j) :: .ref b :: st) h cs ss := by
  subst hb
  have h1 := hw.2.2.1 k hk
  have h2 := hw.setA hk (upd (A k) j x)
  rw [ht] at h1 h2
  exact nd_iastoreN hC h1 hj hn hd (kk _ h2)
theorem mo_last (hC : nd_Cx g mm X) (hw : mo_W h0 A F B h) {x : Int64} (k : Nat) {b j : Nat} (hk : mo_la k = true) (hb : mo_ad k = b) (hj : j < mo_ln k) (hn : mo_ln k ≤ 2147483647) (hd : decode mm.2.1 pc = .ok (.lastore, 1)) (kk : ∀ h2, mo_W h0 A F (va_up B k (vp_updL (B k) j x)) h2 → nd_W g mm d mc ms K X (pc + 1) lv st h2 cs ss) : nd_W g mm d mc ms K X pc lv (.long x :: .int (nI j) :: .ref b :: st) h cs ss := by
  subst hb
  exact nd_lastoreN hC (hw.2.2.2 k hk) hj hn hd (kk _ (hw.setB hk _))
theorem mo_zast (hC : nd_Cx g mm X) (hw : mo_W h0 A F B h) {x : Int32} {j : Nat} (hj : j < 3) (hx : vp_nar .boolean x = x) (hd : decode mm.2.1 pc = .ok (.bastore, 1)) (kk : ∀ h2, mo_W h0 (va_up A 3 (upd (A 3) j x)) F B h2 → nd_W g mm d mc ms K X (pc + 1) lv st h2 cs ss) : nd_W g mm d mc ms K X pc lv (.int x :: .int (nI j) :: .ref 105 :: st) h cs ss := by
  have h2 := hw.setA (k := 3) rfl (upd (A 3) j x)
  refine nd_zastoreN (b := 105) (n := 3) (f := A 3) hC (hw.2.2.1 3 rfl) hj (by decide) hd ?_
  rw [hx]
  exact kk _ h2
end MO

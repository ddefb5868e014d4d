set_option maxRecDepth 100000
/-! ===== states: become, folds, marks ===== -/
theorem cs_len {n : Nat} {s : sv} (hv : sv_ok n s) (hn : n ≤ 6) : s.1.length ≤ 5 ∧ s.2.1.length ≤ 6 ∧ s.2.2.length ≤ 6 := ⟨lk_val_le hn hv.1, by rw [hv.2.1]; exact hn, by rw [hv.2.2.1]; exact hn⟩
theorem cp_at {f f2 : Nat → Int32} {n i : Nat} (h : i < n) : va_cpy f f2 0 0 n i = f i := by
  unfold va_cpy
  rw [if_pos (by omega), Nat.zero_add, Nat.sub_zero]
/-- only the state at a itself and its rows may have changed -/
def cs_fr (a : Nat) (h h2 : nd_H) : Prop := h2.length = h.length ∧ ∀ b, ¬ (b = a ∨ (a + 5 ≤ b ∧ b < a + 8)) → h2[b]? = h[b]?
theorem cs_fr.set {a b : Nat} {c : nd_C} {h : nd_H} (hb : b = a ∨ (a + 5 ≤ b ∧ b < a + 8)) : cs_fr a h (h.set b c) := ⟨List.length_set, fun x hx => List.getElem?_set_ne (by omega)⟩
theorem cs_fr.trans {a : Nat} {h h2 h3 : nd_H} (f : cs_fr a h h2) (f2 : cs_fr a h2 h3) : cs_fr a h h3 := ⟨f2.1.trans f.1, fun b hb => (f2.2 b hb).trans (f.2 b hb)⟩
theorem cs_fr.ck {a : Nat} {h h2 : nd_H} (f : cs_fr a h h2) : ck_fr a 8 h h2 := ⟨f.1, fun b hb => f.2 b (by omega)⟩
section CP60
variable {g : nd_G} {mm : nd_Mt} {d mc ms : Nat} {K : nd_K} {X : nd_X} {pc : Nat} {lv : List (Option Value)} {st : List Value} {h : nd_H} {cs ss : Nat}
theorem cs_putN (hC : nd_Cx g mm X) {a index v : Nat} {x0 x1 x2 x3 x4 : Value} (hb : h[a]? = some (.inr (nX2, [x0, x1, x2, x3, x4]))) (hlink : Cond.fieldLink mm.1.cls index "NapkinDeeds$State" "napkin" "LNapkinDeeds$Napkin;" ∈ lw_all) (hd : decode mm.2.1 pc = .ok (.putfield index, 3)) (kk : nd_W g mm d mc ms K X (pc + 3) lv st (h.set a (.inr (nX2, [.ref v, x1, x2, x3, x4]))) cs ss) : nd_W g mm d mc ms K X pc lv (.ref v :: .ref a :: st) h cs ss :=
  nd_put (ci := nX2) hC in_X2 rfl hb 0 (by decide) tyX2 tyX2_ok (by decide +kernel) hlink (fun _ z => z) rfl rfl rfl (by show 0 < 5; decide) hd kk
theorem cs_putM (hC : nd_Cx g mm X) {a index : Nat} {x0 x1 x2 x3 x4 : Value} {v : Int32} (hb : h[a]? = some (.inr (nX2, [x0, x1, x2, x3, x4]))) (hlink : Cond.fieldLink mm.1.cls index "NapkinDeeds$State" "many" "I" ∈ lw_all) (hd : decode mm.2.1 pc = .ok (.putfield index, 3)) (kk : nd_W g mm d mc ms K X (pc + 3) lv st (h.set a (.inr (nX2, [x0, x1, x2, x3, .int v]))) cs ss) : nd_W g mm d mc ms K X pc lv (.int v :: .ref a :: st) h cs ss :=
  nd_put (ci := nX2) hC in_X2 rfl hb 4 (by decide) tyX2 tyX2_ok (by decide +kernel) hlink (fun _ z => z) rfl rfl rfl (by show 4 < 5; decide) hd kk
theorem cs_putMN (hC : nd_Cx g mm X) {a index : Nat} {host : String} {x0 x1 x2 x3 x4 : Value} {v : Int32} (hb : h[a]? = some (.inr (nX2, [x0, x1, x2, x3, x4]))) (hlink : Cond.fieldLinkNest mm.1.cls index "NapkinDeeds$State" "many" "I" host ∈ lw_tbl) (hd : decode mm.2.1 pc = .ok (.putfield index, 3)) (kk : nd_W g mm d mc ms K X (pc + 3) lv st (h.set a (.inr (nX2, [x0, x1, x2, x3, .int v]))) cs ss) : nd_W g mm d mc ms K X pc lv (.int v :: .ref a :: st) h cs ss :=
  nd_putN (ci := nX2) hC in_X2 rfl hb 4 (by decide) tyX2 tyX2_ok (by decide +kernel) hlink (fun _ z => z) rfl rfl rfl (by show 4 < 5; decide) hd kk
theorem cs_become (hg : nd_OK g) {Sa D napS napD n : Nat} {s : sv} {fr2 bk2 fo2 : Nat → Int32} {mn2 : Int32} (hS : cs_st h Sa napS s) (hD : cs_S h D napD fr2 bk2 fo2 mn2) (hdis : Sa + 8 ≤ D ∨ D + 8 ≤ Sa) (hv : sv_ok n s) (hn : n ≤ 6) (hk : ∀ h2, cs_fr D h h2 → cs_st h2 D napS s → K (.inl none) h2) : nd_M g mX2_become d 0 0 [.ref D, .ref Sa] h K := by
  obtain ⟨fr, bk, fo, mn, ⟨s1, s2, s3, s4⟩, hcv⟩ := hS
  obtain ⟨d1, d2, d3, d4⟩ := hD
  obtain ⟨l1, l2, l3⟩ := cs_len hv hn
  have q1 := nd_get_lt d1
  have q2 := nd_get_lt d2
  have q3 := nd_get_lt d3
  have q4 := nd_get_lt d4
  refine nd_enter hg (by decide) rfl (Nat.le_of_ble_eq_true rfl) (fun X hC => ?_)
  refine nd_aload_n hC dX2_become_0 rfl rfl ?_
  refine nd_aload_n hC dX2_become_1 rfl rfl ?_
  refine nd_get (ci := nX2) hC in_X2 rfl s1 0 (by decide) q300 (fun _ z => z) rfl dX2_become_2 ?_
  refine cs_putN hC d1 q300 dX2_become_5 ?_
  generalize e1 : h.set D (.inr (nX2, [.ref napS, .ref (D + 5), .ref (D + 6), .ref (D + 7), .int mn2])) = h1
  have g1 : ∀ a, a ≠ D → h1[a]? = h[a]? := fun a ha => by rw [← e1]; exact List.getElem?_set_ne (Ne.symm ha)
  have a1 : h1[D]? = some (.inr (nX2, [.ref napS, .ref (D + 5), .ref (D + 6), .ref (D + 7), .int mn2])) := by rw [← e1]; exact List.getElem?_set_self q1
  have b1 := (g1 Sa (by omega)).trans s1
  have f1 : cs_fr D h h1 := by rw [← e1]; exact cs_fr.set (by omega)
  refine nd_aload_n hC dX2_become_8 rfl rfl ?_
  refine nd_get (ci := nX2) hC in_X2 rfl b1 1 (by decide) q302 (fun _ z => z) rfl dX2_become_9 ?_
  refine nd_iconst hC (v := nI 0) (by rfl) dX2_become_12 ?_
  refine nd_aload_n hC dX2_become_13 rfl rfl ?_
  refine nd_get (ci := nX2) hC in_X2 rfl a1 1 (by decide) q302 (fun _ z => z) rfl dX2_become_14 ?_
  refine nd_iconst hC (v := nI 0) (by rfl) dX2_become_17 ?_
  refine nd_bipush hC (v := nI 6) (by rfl) dX2_become_18 ?_
  refine nd_copyI hC (b0 := Sa + 5) (b1 := D + 5) (n0 := 6) (n1 := 6) (sp := 0) (dp := 0) (n := 6) q660 ((g1 _ (by omega)).trans s2) ((g1 _ (by omega)).trans d2) (by omega) (by omega) (by omega) (by omega) (by decide) dX2_become_20 ?_
  generalize e2 : h1.set (D + 5) (.inl (0, 6, .inl (va_cpy fr fr2 0 0 6))) = h2
  have g2 : ∀ a, a ≠ D + 5 → h2[a]? = h1[a]? := fun a ha => by rw [← e2]; exact List.getElem?_set_ne (Ne.symm ha)
  have a2 := (g2 D (by omega)).trans a1
  have b2 := (g2 Sa (by omega)).trans b1
  have c2 : h2[D + 5]? = some (.inl (0, 6, .inl (va_cpy fr fr2 0 0 6))) := by rw [← e2]; exact List.getElem?_set_self (by rw [f1.1]; exact q2)
  have f2 : cs_fr D h h2 := f1.trans (by rw [← e2]; exact cs_fr.set (by omega))
  refine nd_aload_n hC dX2_become_23 rfl rfl ?_
  refine nd_get (ci := nX2) hC in_X2 rfl b2 2 (by decide) q304 (fun _ z => z) rfl dX2_become_24 ?_
  refine nd_iconst hC (v := nI 0) (by rfl) dX2_become_27 ?_
  refine nd_aload_n hC dX2_become_28 rfl rfl ?_
  refine nd_get (ci := nX2) hC in_X2 rfl a2 2 (by decide) q304 (fun _ z => z) rfl dX2_become_29 ?_
  refine nd_iconst hC (v := nI 0) (by rfl) dX2_become_32 ?_
  refine nd_bipush hC (v := nI 6) (by rfl) dX2_become_33 ?_
  refine nd_copyI hC (b0 := Sa + 6) (b1 := D + 6) (n0 := 6) (n1 := 6) (sp := 0) (dp := 0) (n := 6) q660 ((g2 _ (by omega)).trans ((g1 _ (by omega)).trans s3)) ((g2 _ (by omega)).trans ((g1 _ (by omega)).trans d3)) (by omega) (by omega) (by omega) (by omega) (by decide) dX2_become_35 ?_
  generalize e3 : h2.set (D + 6) (.inl (0, 6, .inl (va_cpy bk bk2 0 0 6))) = h3
  have g3 : ∀ a, a ≠ D + 6 → h3[a]? = h2[a]? := fun a ha => by rw [← e3]; exact List.getElem?_set_ne (Ne.symm ha)
  have a3 := (g3 D (by omega)).trans a2
  have b3 := (g3 Sa (by omega)).trans b2
  have c3 : h3[D + 6]? = some (.inl (0, 6, .inl (va_cpy bk bk2 0 0 6))) := by rw [← e3]; exact List.getElem?_set_self (by rw [f2.1]; exact q3)
  have f3 : cs_fr D h h3 := f2.trans (by rw [← e3]; exact cs_fr.set (by omega))
  refine nd_aload_n hC dX2_become_38 rfl rfl ?_
  refine nd_get (ci := nX2) hC in_X2 rfl b3 3 (by decide) q306 (fun _ z => z) rfl dX2_become_39 ?_
  refine nd_iconst hC (v := nI 0) (by rfl) dX2_become_42 ?_
  refine nd_aload_n hC dX2_become_43 rfl rfl ?_
  refine nd_get (ci := nX2) hC in_X2 rfl a3 3 (by decide) q306 (fun _ z => z) rfl dX2_become_44 ?_
  refine nd_iconst hC (v := nI 0) (by rfl) dX2_become_47 ?_
  refine nd_iconst hC (v := nI 5) (by rfl) dX2_become_48 ?_
  refine nd_copyI hC (b0 := Sa + 7) (b1 := D + 7) (n0 := 5) (n1 := 5) (sp := 0) (dp := 0) (n := 5) q660 ((g3 _ (by omega)).trans ((g2 _ (by omega)).trans ((g1 _ (by omega)).trans s4))) ((g3 _ (by omega)).trans ((g2 _ (by omega)).trans ((g1 _ (by omega)).trans d4))) (by omega) (by omega) (by omega) (by omega) (by decide) dX2_become_49 ?_
  generalize e4 : h3.set (D + 7) (.inl (0, 5, .inl (va_cpy fo fo2 0 0 5))) = h4
  have g4 : ∀ a, a ≠ D + 7 → h4[a]? = h3[a]? := fun a ha => by rw [← e4]; exact List.getElem?_set_ne (Ne.symm ha)
  have a4 := (g4 D (by omega)).trans a3
  have b4 := (g4 Sa (by omega)).trans b3
  have c4 : h4[D + 7]? = some (.inl (0, 5, .inl (va_cpy fo fo2 0 0 5))) := by rw [← e4]; exact List.getElem?_set_self (by rw [f3.1]; exact q4)
  have f4 : cs_fr D h h4 := f3.trans (by rw [← e4]; exact cs_fr.set (by omega))
  refine nd_aload_n hC dX2_become_52 rfl rfl ?_
  refine nd_aload_n hC dX2_become_53 rfl rfl ?_
  refine nd_get (ci := nX2) hC in_X2 rfl b4 4 (by decide) q308 (fun _ z => z) rfl dX2_become_54 ?_
  refine cs_putM hC a4 q308 dX2_become_57 ?_
  have f5 : cs_fr D h (h4.set D (.inr (nX2, [.ref napS, .ref (D + 5), .ref (D + 6), .ref (D + 7), .int mn]))) := f4.trans (cs_fr.set (by omega))
  have g5 : ∀ a, a ≠ D → (h4.set D (.inr (nX2, [.ref napS, .ref (D + 5), .ref (D + 6), .ref (D + 7), .int mn])))[a]? = h4[a]? := fun a ha => List.getElem?_set_ne (Ne.symm ha)
  have R := hk _ f5 ⟨va_cpy fr fr2 0 0 6, va_cpy bk bk2 0 0 6, va_cpy fo fo2 0 0 5, mn, ⟨List.getElem?_set_self (nd_get_lt a4), (g5 _ (by omega)).trans ((g4 _ (by omega)).trans ((g3 _ (by omega)).trans c2)), (g5 _ (by omega)).trans ((g4 _ (by omega)).trans c3), (g5 _ (by omega)).trans c4⟩, hcv.1, fun i hi => (cp_at (by omega)).trans (hcv.2.1 i hi), fun c hc => (cp_at (by omega)).trans (hcv.2.2.1 c hc), fun c hc => (cp_at (by omega)).trans (hcv.2.2.2 c hc)⟩
  refine nd_return hC rfl (by omega) (by omega) dX2_become_60 (R)
theorem cs_folds (hg : nd_OK g) {a nap line way : Nat} {s : sv} (hS : cs_st h a nap s) (h5 : s.1.length < 5) (hk : ∀ h2, cs_fr a h h2 → cs_st h2 a nap (s.1 ++ [10 * line + way], s.2.1, s.2.2) → K (.inl none) h2) : nd_M g mX2_folds d 0 0 [.ref a, .int (nI line), .int (nI way)] h K := by
  obtain ⟨fr, bk, fo, mn, ⟨s1, s2, s3, s4⟩, hcv⟩ := hS
  obtain ⟨v1, v2, v3, v4⟩ := hcv
  subst v1
  refine nd_enter hg (by decide) rfl (Nat.le_of_ble_eq_true rfl) (fun X hC => ?_)
  refine nd_aload_n hC dX2_folds_0 rfl rfl ?_
  refine nd_get (ci := nX2) hC in_X2 rfl s1 3 (by decide) q306 (fun _ z => z) rfl dX2_folds_1 ?_
  refine nd_aload_n hC dX2_folds_4 rfl rfl ?_
  refine nd_get (ci := nX2) hC in_X2 rfl s1 4 (by decide) q308 (fun _ z => z) rfl dX2_folds_5 ?_
  refine nd_bipush hC (v := nI 10) (by rfl) dX2_folds_8 ?_
  refine nd_iload_n hC dX2_folds_10 rfl ?_
  first | with_reducible refine nd_imulN hC dX2_folds_11 ?_ | refine nd_imul hC dX2_folds_11 ?_
  refine nd_iload_n hC dX2_folds_12 rfl ?_
  first | with_reducible refine nd_iaddN hC dX2_folds_13 ?_ | refine nd_iadd hC dX2_folds_13 ?_
  refine nd_iastoreN hC s4 (j := s.1.length) (by omega) (by omega) dX2_folds_14 ?_
  generalize e1 : h.set (a + 7) (.inl (0, 5, .inl (upd fo s.1.length (nI (10 * line + way))))) = h1
  have g1 : ∀ b, b ≠ a + 7 → h1[b]? = h[b]? := fun b hb => by rw [← e1]; exact List.getElem?_set_ne (Ne.symm hb)
  have a1 := (g1 a (by omega)).trans s1
  have c1 : h1[a + 7]? = some (.inl (0, 5, .inl (upd fo s.1.length (nI (10 * line + way))))) := by rw [← e1]; exact List.getElem?_set_self (nd_get_lt s4)
  have f1 : cs_fr a h h1 := by rw [← e1]; exact cs_fr.set (by omega)
  refine nd_aload_n hC dX2_folds_15 rfl rfl ?_
  refine nd_dup hC (by rfl) dX2_folds_16 ?_
  refine nd_get (ci := nX2) hC in_X2 rfl a1 4 (by decide) q308 (fun _ z => z) rfl dX2_folds_17 ?_
  refine nd_iconst hC (v := nI 1) (by rfl) dX2_folds_20 ?_
  first | with_reducible refine nd_iaddN hC dX2_folds_21 ?_ | refine nd_iadd hC dX2_folds_21 ?_
  refine cs_putM hC a1 q308 dX2_folds_22 ?_
  have g2 : ∀ b, b ≠ a → (h1.set a (.inr (nX2, [.ref nap, .ref (a + 5), .ref (a + 6), .ref (a + 7), .int (nI (s.1.length + 1))])))[b]? = h1[b]? := fun b hb => List.getElem?_set_ne (Ne.symm hb)
  have R := hk _ (f1.trans (cs_fr.set (by omega))) ⟨fr, bk, upd fo s.1.length (nI (10 * line + way)), nI (s.1.length + 1), ⟨List.getElem?_set_self (nd_get_lt a1), (g2 _ (by omega)).trans ((g1 _ (by omega)).trans s2), (g2 _ (by omega)).trans ((g1 _ (by omega)).trans s3), (g2 _ (by omega)).trans c1⟩, by rw [List.length_append]; rfl, fun i hi => by
    rw [List.length_append] at hi
    have hi : i < s.1.length + 1 := hi
    by_cases z : i = s.1.length
    · subst z; rw [upd_s]; simp
    · rw [upd_n z, v2 i (by omega), List.getD_eq_getElem?_getD, List.getD_eq_getElem?_getD, List.getElem?_append_left (by omega)], v3, v4⟩
  refine nd_return hC rfl (by omega) (by omega) dX2_folds_25 (R)
end CP60


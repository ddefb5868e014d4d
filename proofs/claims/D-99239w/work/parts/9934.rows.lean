set_option maxRecDepth 100000
/-! ===== rows ===== -/
theorem cw_S.set {h : nd_H} {b : Nat} {c : nd_C} (H : cw_S h) (hb : 101 ≤ b) : cw_S (h.set b c) := by
  obtain ⟨b1, ⟨tl, b2⟩, ⟨n2, fr, bk, fo, mn, c1, c2, c3, c4⟩, ⟨cf, c5⟩⟩ := H
  have e : ∀ {a : Nat} {x : nd_C}, h[a]? = some x → a < 101 → (h.set b c)[a]? = some x := fun q z => (List.getElem?_set_ne (by omega)).trans q
  refine ⟨fun k hk => ?_, ⟨tl, e b2 (by omega)⟩, ⟨n2, fr, bk, fo, mn, e c1 (by omega), e c2 (by omega), e c3 (by omega), e c4 (by omega)⟩, ⟨cf, e c5 (by omega)⟩⟩
  obtain ⟨w, hi, co, d1, d2, d3, d4⟩ := b1 k hk
  exact ⟨w, hi, co, e d1 (by omega), e d2 (by omega), fun t ht => e (d3 t ht) (by omega), e d4 (by omega)⟩
theorem fl_count {α : Type} (p : α → Bool) : ∀ (xs : List α) (s : Nat), xs.foldl (fun s e => s + (p e).toNat) s = s + (xs.filter p).length := by
  intro xs
  induction xs with
  | nil => intro s; rfl
  | cons x xs ih =>
    intro s
    rw [List.foldl_cons, ih]
    cases e : p x with
    | true => rw [List.filter_cons_of_pos e, List.length_cons]; show s + 1 + _ = s + (_ + 1); omega
    | false => rw [List.filter_cons_of_neg (by rw [e]; decide)]; rfl
theorem df_le {m : Nat} {n : Nat} {l : List (List Nat)} (hm : m ≤ 5) (hok : lk_ok n l) (hn : n ≤ 6) : (df m [] l).length ≤ 27925 := by
  rw [df_length]
  exact lv_cntA_le m hm _ (Nat.le_trans (lk_width hok) hn)
theorem cr_l0_ok {S : sy_S} (hS : sy_ok S) (fl : Bool) : lk_ok (sy_n S) (cr_l0 (sy_N S) (sy_c S) fl) := by
  unfold cr_l0
  split
  · exact lk_flat_ok _
  · exact lk_run_ok _ (lk_flat_ok _) hS.1.2.1.1
section CP34
variable {g : nd_G} {d : Nat} {K : nd_K} {h : nd_H} {o : Nat → Nat} {nap : Nat} {ds : List Nat} {gi : Nat → Value} {dss : Nat → List Nat} {S : sy_S}
theorem cp_rows (hg : nd_OK g) (hd : 20 ≤ d) (x : Int32) : cp_ok g mX1_rows d 4 24 [.int x] (ex1 eIAE) (mp_i (op_rows x)) := by
  intro S h K hS hI hl123 hk0 hk1
  obtain ⟨hs, o, nap, ds, gi, dss, hK⟩ := hI
  obtain ⟨⟨x0, hO⟩, h17, hkk, -⟩ := id hK
  unfold cx_O at hO
  have hok := sy_l_ok hS
  have hwd := lk_width hok
  have hn : sy_n S ≤ 6 := hS.1.1.1
  have h5 := sy_len5 hS
  obtain ⟨sfr, sbk, sfo, smn, hSt, hcv⟩ := id hkk.2.1
  obtain ⟨hSt1, hSt2, hSt3, hSt4⟩ := id hSt
  have hcv : cs_v sfr sbk sfo smn (sy_c S) := hcv
  have hsv : sv_ok (sy_n S) (sy_c S) := hS.1.2.1
  unfold mp_i op_rows at hk0 hk1
  refine nd_enter hg (by decide) rfl (Nat.le_of_ble_eq_true rfl) (fun X hC => ?_)
  refine nd_iload_n hC dX1_rows_0 rfl ?_
  refine nd_callS (mm2 := mX1_mustRows) (As := [_]) (mc2 := 1) (ms2 := 6) (d2 := d - 1) hC rfl lkX1_368 lmX1_mustRows (Nat.le_of_ble_eq_true rfl) (by omega) rfl (by exact Nat.le_of_ble_eq_true rfl) (by omega) (by omega) dX1_rows_1 rfl ((cx_mustRows hg (by omega) (fun hc => ?_) (fun hc n => ?_)))
  · rw [if_pos hc] at hk0
    obtain ⟨m, hm9, rfl⟩ := op_in_nat hc
    have hm5 : m ≤ 5 := by omega
    rw [nI_cl (by omega)] at hk0
    refine nd_new (ci := nX22) hC [.int 0, .null, .null, .null, .int 0, .null] in_X22 rfl tyX22 tyX22_ok q2131 q2132 q192 rfl rfl (by omega) (by omega) dX1_rows_4 ?_
    refine nd_dup hC (by rfl) dX1_rows_7 ?_
    refine nd_aload_n hC dX1_rows_8 rfl rfl ?_
    refine nd_iload_n hC dX1_rows_9 rfl ?_
    refine nd_callI (mm2 := mX22_init) (As := [_, _]) (mc2 := 1) (ms2 := 5) (d2 := d - 1) hC rfl rfl q2135 q192 q2133 q2134 rfl lmX22_init (Nat.le_of_ble_eq_true rfl) (by omega) rfl (by exact Nat.le_of_ble_eq_true rfl) (by omega) (by omega) dX1_rows_10 rfl ((ni_X22 hg (by omega) (List.getElem?_concat_length ..) ?_))
    rw [show (h ++ [(.inr (nX22, [.int 0, .null, .null, .null, .int 0, .null]) : nd_C)]).length = h.length + 1 by simp]
    generalize hh1 : (h ++ [(.inr (nX22, [.int 0, .null, .null, .null, .int 0, .null]) : nd_C)]).set h.length (.inr (nX22, [.int 0, .ref 0, .ref (h.length + 1), .ref 0, .int (nI m), .ref 0])) ++ [.inl (0, 5, .inl (fun _ => 0))] = h1
    have e1 : h1[h.length]? = some (.inr (nX22, [.int (nI 0), .ref 0, .ref (h.length + 1), .ref 0, .int (nI m), .ref 0])) := by
      rw [← hh1]; exact l_get_app (by simp)
    have e2 : h1[h.length + 1]? = some (.inl (0, 5, .inl (fun _ => 0))) := by
      rw [← hh1, List.getElem?_append_right (by simp)]; simp
    have f1 : cw_f h h1 := by
      rw [← hh1]
      exact (cw_f.app (cw_f.set (cw_f.app cw_f.rfl) (Or.inl (Nat.le_refl _))))
    have hs1 : cw_S h1 := by
      rw [← hh1]
      exact cw_S.app (cw_S.set hs.app (by omega))
    refine nd_astore_n hC dX1_rows_13 (Nat.le_of_ble_eq_true rfl) rfl ?_
    refine nd_aload_n hC dX1_rows_14 rfl rfl ?_
    refine nd_iconst hC (v := nI 0) (by rfl) dX1_rows_15 ?_
    refine nd_iload_n hC dX1_rows_16 rfl ?_
    refine nd_callU (mm2 := mX20_seeks) (As := [_, _]) (mc2 := 0) (ms2 := 0) (d2 := d - 1) (owner := "NapkinDeeds$Rows") (x := ⟨"NapkinDeeds$Many", "seeks", "(ZI)LNapkinDeeds$Rows;"⟩) (n := 2) hC rfl (va_cwU 2 hC.hts (lw_U q2156 q2157 q2158 q812 q190 q813) rfl rfl rfl rfl ⟨by decide, by decide, by decide +kernel⟩ (nd_roomR (by omega) (by decide))) (e1) rfl (Nat.le_of_ble_eq_true rfl) (by omega) rfl (by exact Nat.le_of_ble_eq_true rfl) (by omega) (by omega) dX1_rows_17 rfl ((cw_seek (fl := false) (most := m) (d0 := 4) (b := h.length) (rb := h.length + 1) (ci := nX22) (σ := Nat) (s0 := 0) (see := fun s e => s + (decide (e.1.length = m)).toNat) (Bd := fun s => s < 1000000) (Ob := fun s h2 => h2[h.length]? = some (.inr (nX22, [.int (nI s), .ref 0, .ref (h.length + 1), .ref 0, .int (nI m), .ref 0])) ∧ ∃ f, h2[h.length + 1]? = some (.inl (0, 5, .inl f))) hg (by omega) (by omega) hm5 hS hK hl123 hs1 f1 (Nat.le_refl _) (by omega) ?_ ?_ ?_ ⟨e1, ⟨_, e2⟩⟩ ?_ (fun h2 H hs2 f2 hl2 => ?_)))
    · exact fun s h2 H => ⟨⟨2, _, Or.inl ⟨rfl, rfl⟩, H.1, rfl, rfl⟩, H.2⟩
    · exact fun s h2 h3 H hl hf hr => ⟨(hf h.length (by omega) (by omega)).trans H.1, hr⟩
    · intro d2 hd2 s r l h2 K2 hB H hs2 f2 hl hokl hrw hr5 kk
      refine Or.inl ⟨nX22, _, Or.inl rfl, H.1, cm_seesX22 (Q := fun h3 => h3 = h2) (v := decide (r.length = m)) hg (by omega) H.1 (fun K3 kq => cq_soX22 hg hm5 hr5 H.1 (kq h2 rfl)) (fun h3 e => by rw [e]) hB (fun h3 e => ?_)⟩
      subst e
      refine kk _ ⟨List.getElem?_set_self (nd_get_lt H.1), ?_⟩ (hs2.set (by omega)) (f2.set (Or.inl (Nat.le_refl _))) List.length_set (fun a ha => List.getElem?_set_ne (by omega))
      obtain ⟨f9, e9⟩ := H.2
      exact ⟨f9, (List.getElem?_set_ne (by omega)).trans e9⟩
    · refine df_B_n _ (fun s => s) 1000000 (fun s x => ?_) _ 0 ?_
      · show s + (decide (x.1.length = m)).toNat ≤ s + 1
        have := Bool.toNat_le (decide (x.1.length = m))
        omega
      · have := df_le hm5 (cr_l0_ok hS false) hn
        omega
    · have ev : (df m [] (cr_l0 (sy_N S) (sy_c S) false)).foldl (fun s e => s + (decide (e.1.length = m)).toNat) 0 = (lv_lev m (sy_l S)).length := by
        rw [fl_count, Nat.zero_add, df_lev0 (Nat.le_refl _)]
        rfl
      rw [ev] at H
      refine nd_pop hC (by rfl) dX1_rows_20 ?_
      refine nd_aload_n hC dX1_rows_21 rfl rfl ?_
      refine nd_get (ci := nX22) hC in_X22 rfl H.1 0 (by decide) q2143 (fun _ z => z) rfl dX1_rows_22 ?_
      refine nd_ireturn hC rfl (by first | rfl | exact nd_b_nar _) (by omega) (by omega) dX1_rows_25 ((hk0 rfl h2 ⟨hs2, o, nap, ds, gi, dss, (hK.f f2)⟩ (f2.fr hl123)))
  · rw [if_neg (by rw [hc]; decide)] at hk1
    exact nd_out hC rfl (by omega) (by omega) (hk1 (Nat.succ_ne_zero _) _ _ ⟨hs.app, o, nap, ds, gi, dss, hK.f cw_f.rfl.app⟩ (cw_f.rfl.app.fr hl123))
end CP34


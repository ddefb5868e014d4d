set_option maxRecDepth 100000
section SO9902
variable {g : nd_G} {d : Nat} {K : nd_K} {X : nd_X} {h : nd_H} {A n : Nat}
theorem so_mx21 (hlt : A < h.length) (hn : n ≤ 100000) (hC : nd_Cx g mJ25_mixedInsertionSort X) {l1 l2 l7 l8 l9 l10 : Option Value} {v : Int64} {q0 hi : Nat} : ∀ p f, q0 < p → p + 1 ≤ n → (f q0).toInt ≤ v.toInt → (∀ q, q0 ≤ q → q < p → (f q).toInt ≤ v.toInt → (∀ j, q < j → j < p → v.toInt < (f j).toInt) → nd_W g mJ25_mixedInsertionSort d 0 0 K X 47 [some (.ref A), l1, l2, some (.int (nI hi)), some (.int (nI q)), some (.long v), none, l7, l8, l9, l10] [] (h.set A (.inl (1, n, .inr (.inl (so_sh 1 q p f))))) 0 0) → nd_W g mJ25_mixedInsertionSort d 0 0 K X 21 [some (.ref A), l1, l2, some (.int (nI hi)), some (.int (nI p)), some (.long v), none, l7, l8, l9, l10] [] (h.set A (.inl (1, n, .inr (.inl (f))))) 0 0 := by
  intro p
  induction p with
  | zero => intro f h1; omega
  | succ p ih =>
    intro f h1 h2 h3 hk
    refine nd_lload hC dJ25_mixedInsertionSort_21 rfl ?_
    refine nd_aload_n hC dJ25_mixedInsertionSort_23 rfl rfl ?_
    first | with_reducible refine nd_iincN hC dJ25_mixedInsertionSort_24 rfl (Nat.le_of_ble_eq_true rfl) ?_ | refine nd_iinc hC dJ25_mixedInsertionSort_24 rfl rfl (Nat.le_of_ble_eq_true rfl) ?_
    rw [i_dec, i_pred (by omega)]
    refine nd_iload hC dJ25_mixedInsertionSort_27 rfl ?_
    refine nd_laloadN hC (List.getElem?_set_self hlt) (by omega) (by omega) dJ25_mixedInsertionSort_29 ?_
    refine nd_lcmp_ge hC (tgt := 47) dJ25_mixedInsertionSort_30 dJ25_mixedInsertionSort_31 (by decide) (fun hq => ?_) (fun hq => ?_)
    · rw [Int64.le_iff_toInt_le] at hq
      have M := hk p (by omega) (by omega) hq (fun j a b => absurd a (by omega))
      rw [so_sh_0] at M
      exact M
    · rw [Int64.le_iff_toInt_le] at hq
      refine nd_aload_n hC dJ25_mixedInsertionSort_34 rfl rfl ?_
      refine nd_iload hC dJ25_mixedInsertionSort_35 rfl ?_
      refine nd_iconst hC (v := nI 1) (by rfl) dJ25_mixedInsertionSort_37 ?_
      first | with_reducible refine nd_iaddN hC dJ25_mixedInsertionSort_38 ?_ | refine nd_iadd hC dJ25_mixedInsertionSort_38 ?_
      refine nd_aload_n hC dJ25_mixedInsertionSort_39 rfl rfl ?_
      refine nd_iload hC dJ25_mixedInsertionSort_40 rfl ?_
      refine nd_laloadN hC (List.getElem?_set_self hlt) (by omega) (by omega) dJ25_mixedInsertionSort_42 ?_
      refine so_ast hC hlt hn (by omega) dJ25_mixedInsertionSort_43 ?_
      refine nd_goto hC (tgt := 21) dJ25_mixedInsertionSort_44 (by decide) ?_
      have h5 : q0 < p := by
        rcases Nat.lt_or_ge q0 p with z | z
        · exact z
        · exfalso
          rw [show q0 = p by omega] at h3
          exact hq h3
      refine ih _ h5 (by omega) (by rw [uL_n (by omega)]; exact h3) (fun q a b c e => ?_)
      rw [uL_n (by omega)] at c
      rw [so_sh_step (by omega) b]
      refine hk q a (by omega) c (fun j a2 b2 => ?_)
      by_cases e2 : j = p
      · subst e2; omega
      · have M := e j a2 (by omega)
        rw [uL_n (by omega)] at M
        exact M
theorem so_mx108 (hlt : A < h.length) (hn : n ≤ 100000) (hC : nd_Cx g mJ25_mixedInsertionSort X) {l1 l2 l4 l7 l10 : Option Value} {v : Int64} {q0 hi : Nat} : ∀ p f, q0 < p → p + 1 ≤ n → (f q0).toInt ≤ v.toInt → (∀ q, q0 ≤ q → q < p → (f q).toInt ≤ v.toInt → (∀ j, q < j → j < p → v.toInt < (f j).toInt) → nd_W g mJ25_mixedInsertionSort d 0 0 K X 134 [some (.ref A), l1, l2, some (.int (nI hi)), l4, none, some (.int (nI q)), l7, some (.long v), none, l10] [] (h.set A (.inl (1, n, .inr (.inl (so_sh 1 q p f))))) 0 0) → nd_W g mJ25_mixedInsertionSort d 0 0 K X 108 [some (.ref A), l1, l2, some (.int (nI hi)), l4, none, some (.int (nI p)), l7, some (.long v), none, l10] [] (h.set A (.inl (1, n, .inr (.inl (f))))) 0 0 := by
  intro p
  induction p with
  | zero => intro f h1; omega
  | succ p ih =>
    intro f h1 h2 h3 hk
    refine nd_lload hC dJ25_mixedInsertionSort_108 rfl ?_
    refine nd_aload_n hC dJ25_mixedInsertionSort_110 rfl rfl ?_
    first | with_reducible refine nd_iincN hC dJ25_mixedInsertionSort_111 rfl (Nat.le_of_ble_eq_true rfl) ?_ | refine nd_iinc hC dJ25_mixedInsertionSort_111 rfl rfl (Nat.le_of_ble_eq_true rfl) ?_
    rw [i_dec, i_pred (by omega)]
    refine nd_iload hC dJ25_mixedInsertionSort_114 rfl ?_
    refine nd_laloadN hC (List.getElem?_set_self hlt) (by omega) (by omega) dJ25_mixedInsertionSort_116 ?_
    refine nd_lcmp_ge hC (tgt := 134) dJ25_mixedInsertionSort_117 dJ25_mixedInsertionSort_118 (by decide) (fun hq => ?_) (fun hq => ?_)
    · rw [Int64.le_iff_toInt_le] at hq
      have M := hk p (by omega) (by omega) hq (fun j a b => absurd a (by omega))
      rw [so_sh_0] at M
      exact M
    · rw [Int64.le_iff_toInt_le] at hq
      refine nd_aload_n hC dJ25_mixedInsertionSort_121 rfl rfl ?_
      refine nd_iload hC dJ25_mixedInsertionSort_122 rfl ?_
      refine nd_iconst hC (v := nI 1) (by rfl) dJ25_mixedInsertionSort_124 ?_
      first | with_reducible refine nd_iaddN hC dJ25_mixedInsertionSort_125 ?_ | refine nd_iadd hC dJ25_mixedInsertionSort_125 ?_
      refine nd_aload_n hC dJ25_mixedInsertionSort_126 rfl rfl ?_
      refine nd_iload hC dJ25_mixedInsertionSort_127 rfl ?_
      refine nd_laloadN hC (List.getElem?_set_self hlt) (by omega) (by omega) dJ25_mixedInsertionSort_129 ?_
      refine so_ast hC hlt hn (by omega) dJ25_mixedInsertionSort_130 ?_
      refine nd_goto hC (tgt := 108) dJ25_mixedInsertionSort_131 (by decide) ?_
      have h5 : q0 < p := by
        rcases Nat.lt_or_ge q0 p with z | z
        · exact z
        · exfalso
          rw [show q0 = p by omega] at h3
          exact hq h3
      refine ih _ h5 (by omega) (by rw [uL_n (by omega)]; exact h3) (fun q a b c e => ?_)
      rw [uL_n (by omega)] at c
      rw [so_sh_step (by omega) b]
      refine hk q a (by omega) c (fun j a2 b2 => ?_)
      by_cases e2 : j = p
      · subst e2; omega
      · have M := e j a2 (by omega)
        rw [uL_n (by omega)] at M
        exact M
theorem so_mx197 (hlt : A < h.length) (hn : n ≤ 100000) (hC : nd_Cx g mJ25_mixedInsertionSort X) {l1 l2 l4 l7 l10 : Option Value} {v : Int64} {q0 hi : Nat} : ∀ p f, q0 < p → p + 1 ≤ n → (f q0).toInt ≤ v.toInt → (∀ q, q0 ≤ q → q < p → (f q).toInt ≤ v.toInt → (∀ j, q < j → j < p → v.toInt < (f j).toInt) → nd_W g mJ25_mixedInsertionSort d 0 0 K X 223 [some (.ref A), l1, l2, some (.int (nI hi)), l4, none, some (.int (nI q)), l7, some (.long v), none, l10] [] (h.set A (.inl (1, n, .inr (.inl (so_sh 1 q p f))))) 0 0) → nd_W g mJ25_mixedInsertionSort d 0 0 K X 197 [some (.ref A), l1, l2, some (.int (nI hi)), l4, none, some (.int (nI p)), l7, some (.long v), none, l10] [] (h.set A (.inl (1, n, .inr (.inl (f))))) 0 0 := by
  intro p
  induction p with
  | zero => intro f h1; omega
  | succ p ih =>
    intro f h1 h2 h3 hk
    refine nd_lload hC dJ25_mixedInsertionSort_197 rfl ?_
    refine nd_aload_n hC dJ25_mixedInsertionSort_199 rfl rfl ?_
    first | with_reducible refine nd_iincN hC dJ25_mixedInsertionSort_200 rfl (Nat.le_of_ble_eq_true rfl) ?_ | refine nd_iinc hC dJ25_mixedInsertionSort_200 rfl rfl (Nat.le_of_ble_eq_true rfl) ?_
    rw [i_dec, i_pred (by omega)]
    refine nd_iload hC dJ25_mixedInsertionSort_203 rfl ?_
    refine nd_laloadN hC (List.getElem?_set_self hlt) (by omega) (by omega) dJ25_mixedInsertionSort_205 ?_
    refine nd_lcmp_ge hC (tgt := 223) dJ25_mixedInsertionSort_206 dJ25_mixedInsertionSort_207 (by decide) (fun hq => ?_) (fun hq => ?_)
    · rw [Int64.le_iff_toInt_le] at hq
      have M := hk p (by omega) (by omega) hq (fun j a b => absurd a (by omega))
      rw [so_sh_0] at M
      exact M
    · rw [Int64.le_iff_toInt_le] at hq
      refine nd_aload_n hC dJ25_mixedInsertionSort_210 rfl rfl ?_
      refine nd_iload hC dJ25_mixedInsertionSort_211 rfl ?_
      refine nd_iconst hC (v := nI 1) (by rfl) dJ25_mixedInsertionSort_213 ?_
      first | with_reducible refine nd_iaddN hC dJ25_mixedInsertionSort_214 ?_ | refine nd_iadd hC dJ25_mixedInsertionSort_214 ?_
      refine nd_aload_n hC dJ25_mixedInsertionSort_215 rfl rfl ?_
      refine nd_iload hC dJ25_mixedInsertionSort_216 rfl ?_
      refine nd_laloadN hC (List.getElem?_set_self hlt) (by omega) (by omega) dJ25_mixedInsertionSort_218 ?_
      refine so_ast hC hlt hn (by omega) dJ25_mixedInsertionSort_219 ?_
      refine nd_goto hC (tgt := 197) dJ25_mixedInsertionSort_220 (by decide) ?_
      have h5 : q0 < p := by
        rcases Nat.lt_or_ge q0 p with z | z
        · exact z
        · exfalso
          rw [show q0 = p by omega] at h3
          exact hq h3
      refine ih _ h5 (by omega) (by rw [uL_n (by omega)]; exact h3) (fun q a b c e => ?_)
      rw [uL_n (by omega)] at c
      rw [so_sh_step (by omega) b]
      refine hk q a (by omega) c (fun j a2 b2 => ?_)
      by_cases e2 : j = p
      · subst e2; omega
      · have M := e j a2 (by omega)
        rw [uL_n (by omega)] at M
        exact M
theorem so_mx263 (hlt : A < h.length) (hn : n ≤ 100000) (hC : nd_Cx g mJ25_mixedInsertionSort X) {l1 l2 l4 l9 l10 : Option Value} {v : Int64} {q0 hi : Nat} : ∀ p f, q0 < p → p + 2 ≤ n → (f q0).toInt ≤ v.toInt → (∀ q, q0 ≤ q → q < p → (f q).toInt ≤ v.toInt → (∀ j, q < j → j < p → v.toInt < (f j).toInt) → nd_W g mJ25_mixedInsertionSort d 0 0 K X 289 [some (.ref A), l1, l2, some (.int (nI hi)), l4, none, some (.int (nI q)), some (.long v), none, l9, l10] [] (h.set A (.inl (1, n, .inr (.inl (so_sh 2 q p f))))) 0 0) → nd_W g mJ25_mixedInsertionSort d 0 0 K X 263 [some (.ref A), l1, l2, some (.int (nI hi)), l4, none, some (.int (nI p)), some (.long v), none, l9, l10] [] (h.set A (.inl (1, n, .inr (.inl (f))))) 0 0 := by
  intro p
  induction p with
  | zero => intro f h1; omega
  | succ p ih =>
    intro f h1 h2 h3 hk
    refine nd_lload hC dJ25_mixedInsertionSort_263 rfl ?_
    refine nd_aload_n hC dJ25_mixedInsertionSort_265 rfl rfl ?_
    first | with_reducible refine nd_iincN hC dJ25_mixedInsertionSort_266 rfl (Nat.le_of_ble_eq_true rfl) ?_ | refine nd_iinc hC dJ25_mixedInsertionSort_266 rfl rfl (Nat.le_of_ble_eq_true rfl) ?_
    rw [i_dec, i_pred (by omega)]
    refine nd_iload hC dJ25_mixedInsertionSort_269 rfl ?_
    refine nd_laloadN hC (List.getElem?_set_self hlt) (by omega) (by omega) dJ25_mixedInsertionSort_271 ?_
    refine nd_lcmp_ge hC (tgt := 289) dJ25_mixedInsertionSort_272 dJ25_mixedInsertionSort_273 (by decide) (fun hq => ?_) (fun hq => ?_)
    · rw [Int64.le_iff_toInt_le] at hq
      have M := hk p (by omega) (by omega) hq (fun j a b => absurd a (by omega))
      rw [so_sh_0] at M
      exact M
    · rw [Int64.le_iff_toInt_le] at hq
      refine nd_aload_n hC dJ25_mixedInsertionSort_276 rfl rfl ?_
      refine nd_iload hC dJ25_mixedInsertionSort_277 rfl ?_
      refine nd_iconst hC (v := nI 2) (by rfl) dJ25_mixedInsertionSort_279 ?_
      first | with_reducible refine nd_iaddN hC dJ25_mixedInsertionSort_280 ?_ | refine nd_iadd hC dJ25_mixedInsertionSort_280 ?_
      refine nd_aload_n hC dJ25_mixedInsertionSort_281 rfl rfl ?_
      refine nd_iload hC dJ25_mixedInsertionSort_282 rfl ?_
      refine nd_laloadN hC (List.getElem?_set_self hlt) (by omega) (by omega) dJ25_mixedInsertionSort_284 ?_
      refine so_ast hC hlt hn (by omega) dJ25_mixedInsertionSort_285 ?_
      refine nd_goto hC (tgt := 263) dJ25_mixedInsertionSort_286 (by decide) ?_
      have h5 : q0 < p := by
        rcases Nat.lt_or_ge q0 p with z | z
        · exact z
        · exfalso
          rw [show q0 = p by omega] at h3
          exact hq h3
      refine ih _ h5 (by omega) (by rw [uL_n (by omega)]; exact h3) (fun q a b c e => ?_)
      rw [uL_n (by omega)] at c
      rw [so_sh_step (by omega) b]
      refine hk q a (by omega) c (fun j a2 b2 => ?_)
      by_cases e2 : j = p
      · subst e2; omega
      · have M := e j a2 (by omega)
        rw [uL_n (by omega)] at M
        exact M
theorem so_mx300 (hlt : A < h.length) (hn : n ≤ 100000) (hC : nd_Cx g mJ25_mixedInsertionSort X) {l1 l2 l4 l7 : Option Value} {v : Int64} {q0 hi : Nat} : ∀ p f, q0 < p → p + 1 ≤ n → (f q0).toInt ≤ v.toInt → (∀ q, q0 ≤ q → q < p → (f q).toInt ≤ v.toInt → (∀ j, q < j → j < p → v.toInt < (f j).toInt) → nd_W g mJ25_mixedInsertionSort d 0 0 K X 326 [some (.ref A), l1, l2, some (.int (nI hi)), l4, none, some (.int (nI q)), l7, none, some (.long v), none] [] (h.set A (.inl (1, n, .inr (.inl (so_sh 1 q p f))))) 0 0) → nd_W g mJ25_mixedInsertionSort d 0 0 K X 300 [some (.ref A), l1, l2, some (.int (nI hi)), l4, none, some (.int (nI p)), l7, none, some (.long v), none] [] (h.set A (.inl (1, n, .inr (.inl (f))))) 0 0 := by
  intro p
  induction p with
  | zero => intro f h1; omega
  | succ p ih =>
    intro f h1 h2 h3 hk
    refine nd_lload hC dJ25_mixedInsertionSort_300 rfl ?_
    refine nd_aload_n hC dJ25_mixedInsertionSort_302 rfl rfl ?_
    first | with_reducible refine nd_iincN hC dJ25_mixedInsertionSort_303 rfl (Nat.le_of_ble_eq_true rfl) ?_ | refine nd_iinc hC dJ25_mixedInsertionSort_303 rfl rfl (Nat.le_of_ble_eq_true rfl) ?_
    rw [i_dec, i_pred (by omega)]
    refine nd_iload hC dJ25_mixedInsertionSort_306 rfl ?_
    refine nd_laloadN hC (List.getElem?_set_self hlt) (by omega) (by omega) dJ25_mixedInsertionSort_308 ?_
    refine nd_lcmp_ge hC (tgt := 326) dJ25_mixedInsertionSort_309 dJ25_mixedInsertionSort_310 (by decide) (fun hq => ?_) (fun hq => ?_)
    · rw [Int64.le_iff_toInt_le] at hq
      have M := hk p (by omega) (by omega) hq (fun j a b => absurd a (by omega))
      rw [so_sh_0] at M
      exact M
    · rw [Int64.le_iff_toInt_le] at hq
      refine nd_aload_n hC dJ25_mixedInsertionSort_313 rfl rfl ?_
      refine nd_iload hC dJ25_mixedInsertionSort_314 rfl ?_
      refine nd_iconst hC (v := nI 1) (by rfl) dJ25_mixedInsertionSort_316 ?_
      first | with_reducible refine nd_iaddN hC dJ25_mixedInsertionSort_317 ?_ | refine nd_iadd hC dJ25_mixedInsertionSort_317 ?_
      refine nd_aload_n hC dJ25_mixedInsertionSort_318 rfl rfl ?_
      refine nd_iload hC dJ25_mixedInsertionSort_319 rfl ?_
      refine nd_laloadN hC (List.getElem?_set_self hlt) (by omega) (by omega) dJ25_mixedInsertionSort_321 ?_
      refine so_ast hC hlt hn (by omega) dJ25_mixedInsertionSort_322 ?_
      refine nd_goto hC (tgt := 300) dJ25_mixedInsertionSort_323 (by decide) ?_
      have h5 : q0 < p := by
        rcases Nat.lt_or_ge q0 p with z | z
        · exact z
        · exfalso
          rw [show q0 = p by omega] at h3
          exact hq h3
      refine ih _ h5 (by omega) (by rw [uL_n (by omega)]; exact h3) (fun q a b c e => ?_)
      rw [uL_n (by omega)] at c
      rw [so_sh_step (by omega) b]
      refine hk q a (by omega) c (fun j a2 b2 => ?_)
      by_cases e2 : j = p
      · subst e2; omega
      · have M := e j a2 (by omega)
        rw [uL_n (by omega)] at M
        exact M
theorem so_mx349 (hlt : A < h.length) (hn : n ≤ 100000) (hC : nd_Cx g mJ25_mixedInsertionSort X) {l1 l2 l4 l7 : Option Value} {v : Int64} {q0 hi : Nat} : ∀ p f, q0 < p → p + 2 ≤ n → (f q0).toInt ≤ v.toInt → (∀ q, q0 ≤ q → q < p → (f q).toInt ≤ v.toInt → (∀ j, q < j → j < p → v.toInt < (f j).toInt) → nd_W g mJ25_mixedInsertionSort d 0 0 K X 375 [some (.ref A), l1, l2, some (.int (nI hi)), l4, none, some (.int (nI q)), l7, none, some (.long v), none] [] (h.set A (.inl (1, n, .inr (.inl (so_sh 2 q p f))))) 0 0) → nd_W g mJ25_mixedInsertionSort d 0 0 K X 349 [some (.ref A), l1, l2, some (.int (nI hi)), l4, none, some (.int (nI p)), l7, none, some (.long v), none] [] (h.set A (.inl (1, n, .inr (.inl (f))))) 0 0 := by
  intro p
  induction p with
  | zero => intro f h1; omega
  | succ p ih =>
    intro f h1 h2 h3 hk
    refine nd_lload hC dJ25_mixedInsertionSort_349 rfl ?_
    refine nd_aload_n hC dJ25_mixedInsertionSort_351 rfl rfl ?_
    first | with_reducible refine nd_iincN hC dJ25_mixedInsertionSort_352 rfl (Nat.le_of_ble_eq_true rfl) ?_ | refine nd_iinc hC dJ25_mixedInsertionSort_352 rfl rfl (Nat.le_of_ble_eq_true rfl) ?_
    rw [i_dec, i_pred (by omega)]
    refine nd_iload hC dJ25_mixedInsertionSort_355 rfl ?_
    refine nd_laloadN hC (List.getElem?_set_self hlt) (by omega) (by omega) dJ25_mixedInsertionSort_357 ?_
    refine nd_lcmp_ge hC (tgt := 375) dJ25_mixedInsertionSort_358 dJ25_mixedInsertionSort_359 (by decide) (fun hq => ?_) (fun hq => ?_)
    · rw [Int64.le_iff_toInt_le] at hq
      have M := hk p (by omega) (by omega) hq (fun j a b => absurd a (by omega))
      rw [so_sh_0] at M
      exact M
    · rw [Int64.le_iff_toInt_le] at hq
      refine nd_aload_n hC dJ25_mixedInsertionSort_362 rfl rfl ?_
      refine nd_iload hC dJ25_mixedInsertionSort_363 rfl ?_
      refine nd_iconst hC (v := nI 2) (by rfl) dJ25_mixedInsertionSort_365 ?_
      first | with_reducible refine nd_iaddN hC dJ25_mixedInsertionSort_366 ?_ | refine nd_iadd hC dJ25_mixedInsertionSort_366 ?_
      refine nd_aload_n hC dJ25_mixedInsertionSort_367 rfl rfl ?_
      refine nd_iload hC dJ25_mixedInsertionSort_368 rfl ?_
      refine nd_laloadN hC (List.getElem?_set_self hlt) (by omega) (by omega) dJ25_mixedInsertionSort_370 ?_
      refine so_ast hC hlt hn (by omega) dJ25_mixedInsertionSort_371 ?_
      refine nd_goto hC (tgt := 349) dJ25_mixedInsertionSort_372 (by decide) ?_
      have h5 : q0 < p := by
        rcases Nat.lt_or_ge q0 p with z | z
        · exact z
        · exfalso
          rw [show q0 = p by omega] at h3
          exact hq h3
      refine ih _ h5 (by omega) (by rw [uL_n (by omega)]; exact h3) (fun q a b c e => ?_)
      rw [uL_n (by omega)] at c
      rw [so_sh_step (by omega) b]
      refine hk q a (by omega) c (fun j a2 b2 => ?_)
      by_cases e2 : j = p
      · subst e2; omega
      · have M := e j a2 (by omega)
        rw [uL_n (by omega)] at M
        exact M
theorem so_mx386 (hlt : A < h.length) (hn : n ≤ 100000) (hC : nd_Cx g mJ25_mixedInsertionSort X) {l1 l2 l4 l9 l10 : Option Value} {v : Int64} {q0 hi : Nat} : ∀ p f, q0 < p → p + 1 ≤ n → (f q0).toInt ≤ v.toInt → (∀ q, q0 ≤ q → q < p → (f q).toInt ≤ v.toInt → (∀ j, q < j → j < p → v.toInt < (f j).toInt) → nd_W g mJ25_mixedInsertionSort d 0 0 K X 412 [some (.ref A), l1, l2, some (.int (nI hi)), l4, none, some (.int (nI q)), some (.long v), none, l9, l10] [] (h.set A (.inl (1, n, .inr (.inl (so_sh 1 q p f))))) 0 0) → nd_W g mJ25_mixedInsertionSort d 0 0 K X 386 [some (.ref A), l1, l2, some (.int (nI hi)), l4, none, some (.int (nI p)), some (.long v), none, l9, l10] [] (h.set A (.inl (1, n, .inr (.inl (f))))) 0 0 := by
  intro p
  induction p with
  | zero => intro f h1; omega
  | succ p ih =>
    intro f h1 h2 h3 hk
    refine nd_lload hC dJ25_mixedInsertionSort_386 rfl ?_
    refine nd_aload_n hC dJ25_mixedInsertionSort_388 rfl rfl ?_
    first | with_reducible refine nd_iincN hC dJ25_mixedInsertionSort_389 rfl (Nat.le_of_ble_eq_true rfl) ?_ | refine nd_iinc hC dJ25_mixedInsertionSort_389 rfl rfl (Nat.le_of_ble_eq_true rfl) ?_
    rw [i_dec, i_pred (by omega)]
    refine nd_iload hC dJ25_mixedInsertionSort_392 rfl ?_
    refine nd_laloadN hC (List.getElem?_set_self hlt) (by omega) (by omega) dJ25_mixedInsertionSort_394 ?_
    refine nd_lcmp_ge hC (tgt := 412) dJ25_mixedInsertionSort_395 dJ25_mixedInsertionSort_396 (by decide) (fun hq => ?_) (fun hq => ?_)
    · rw [Int64.le_iff_toInt_le] at hq
      have M := hk p (by omega) (by omega) hq (fun j a b => absurd a (by omega))
      rw [so_sh_0] at M
      exact M
    · rw [Int64.le_iff_toInt_le] at hq
      refine nd_aload_n hC dJ25_mixedInsertionSort_399 rfl rfl ?_
      refine nd_iload hC dJ25_mixedInsertionSort_400 rfl ?_
      refine nd_iconst hC (v := nI 1) (by rfl) dJ25_mixedInsertionSort_402 ?_
      first | with_reducible refine nd_iaddN hC dJ25_mixedInsertionSort_403 ?_ | refine nd_iadd hC dJ25_mixedInsertionSort_403 ?_
      refine nd_aload_n hC dJ25_mixedInsertionSort_404 rfl rfl ?_
      refine nd_iload hC dJ25_mixedInsertionSort_405 rfl ?_
      refine nd_laloadN hC (List.getElem?_set_self hlt) (by omega) (by omega) dJ25_mixedInsertionSort_407 ?_
      refine so_ast hC hlt hn (by omega) dJ25_mixedInsertionSort_408 ?_
      refine nd_goto hC (tgt := 386) dJ25_mixedInsertionSort_409 (by decide) ?_
      have h5 : q0 < p := by
        rcases Nat.lt_or_ge q0 p with z | z
        · exact z
        · exfalso
          rw [show q0 = p by omega] at h3
          exact hq h3
      refine ih _ h5 (by omega) (by rw [uL_n (by omega)]; exact h3) (fun q a b c e => ?_)
      rw [uL_n (by omega)] at c
      rw [so_sh_step (by omega) b]
      refine hk q a (by omega) c (fun j a2 b2 => ?_)
      by_cases e2 : j = p
      · subst e2; omega
      · have M := e j a2 (by omega)
        rw [uL_n (by omega)] at M
        exact M
theorem so_mx160 (hlt : A < h.length) (hn : n ≤ 100000) (hC : nd_Cx g mJ25_mixedInsertionSort X) {l1 l2 l3 l8 l9 l10 : Option Value} {pin : Int64} {i q0 : Nat} {f : Nat → Int64} (hq0 : (f q0).toInt ≤ pin.toInt) : ∀ p, q0 < p → p ≤ n → (∀ p2, q0 ≤ p2 → p2 < p → nd_W g mJ25_mixedInsertionSort d 0 0 K X 176 [some (.ref A), l1, l2, l3, some (.long pin), none, some (.int (nI i)), some (.int (nI p2)), l8, l9, l10] [] (h.set A (.inl (1, n, .inr (.inl (f))))) 0 0) → nd_W g mJ25_mixedInsertionSort d 0 0 K X 160 [some (.ref A), l1, l2, l3, some (.long pin), none, some (.int (nI i)), some (.int (nI p)), l8, l9, l10] [] (h.set A (.inl (1, n, .inr (.inl (f))))) 0 0 := by
  intro p
  induction p with
  | zero => intro h1; omega
  | succ p ih =>
    intro h1 h2 hk
    refine nd_aload_n hC dJ25_mixedInsertionSort_160 rfl rfl ?_
    first | with_reducible refine nd_iincN hC dJ25_mixedInsertionSort_161 rfl (Nat.le_of_ble_eq_true rfl) ?_ | refine nd_iinc hC dJ25_mixedInsertionSort_161 rfl rfl (Nat.le_of_ble_eq_true rfl) ?_
    rw [i_dec, i_pred (by omega)]
    refine nd_iload hC dJ25_mixedInsertionSort_164 rfl ?_
    refine nd_laloadN hC (List.getElem?_set_self hlt) (by omega) (by omega) dJ25_mixedInsertionSort_166 ?_
    refine nd_lload hC dJ25_mixedInsertionSort_167 rfl ?_
    refine nd_lcmp_le hC (tgt := 176) dJ25_mixedInsertionSort_169 dJ25_mixedInsertionSort_170 (by decide) (fun hq => ?_) (fun hq => ?_)
    · exact hk p (by omega) (by omega)
    · rw [Int64.le_iff_toInt_le] at hq
      refine nd_goto hC (tgt := 160) dJ25_mixedInsertionSort_173 (by decide) ?_
      have h5 : q0 < p := by
        rcases Nat.lt_or_ge q0 p with z | z
        · exact z
        · exfalso
          rw [show q0 = p by omega] at hq0
          exact hq hq0
      exact ih h5 (by omega) (fun p2 a b => hk p2 a (by omega))
theorem so_mixed0 (hg : nd_OK g) {lo hi : Nat} {f : Nat → Int64} (hlt : A < h.length) (hn : n + 2 ≤ 100000) (h0 : 1 ≤ lo) (h1 : lo ≤ hi) (h2 : hi ≤ n) (hse : ∀ j, lo ≤ j → j < hi → (f (lo - 1)).toInt ≤ (f j).toInt) (hk : ∀ f2, so_p lo hi f f2 → so_s lo hi f2 → K (.inl none) (h.set A (.inl (1, n, .inr (.inl (f2)))))) : nd_M g mJ25_mixedInsertionSort d 0 0 [.ref A, .int (nI lo), .int (nI hi), .int (nI hi)] (h.set A (.inl (1, n, .inr (.inl (f))))) K := by
  have hn : n ≤ 100000 := by omega
  refine nd_enter hg (by decide) rfl (Nat.le_of_ble_eq_true rfl) (fun X hC => ?_)
  refine nd_iload_n hC dJ25_mixedInsertionSort_0 rfl ?_
  refine nd_iload_n hC dJ25_mixedInsertionSort_1 rfl ?_
  first | with_reducible refine nd_icmp_neN hC (tgt := 61) (by omega) (by omega) dJ25_mixedInsertionSort_2 (by decide) (fun hq => ?_) (fun hq => ?_) | refine nd_icmp_ne hC (tgt := 61) dJ25_mixedInsertionSort_2 (by decide) (fun hq => ?_) (fun hq => ?_)
  · omega
  have L1 : ∀ t k f2 l4 l5, hi ≤ k + t → lo ≤ k → k ≤ hi → so_p lo hi f f2 → so_s lo (k + 1) f2 → nd_W g mJ25_mixedInsertionSort d 0 0 K X 5 [some (.ref A), some (.int (nI k)), some (.int (nI hi)), some (.int (nI hi)), l4, l5, none, none, none, none, none] [] (h.set A (.inl (1, n, .inr (.inl (f2))))) 0 0 := by
    intro t
    induction t with
    | zero =>
      intro k f2 l4 l5 ht hk1 hk2 hp hs
      first | with_reducible refine nd_iincN hC dJ25_mixedInsertionSort_5 rfl (Nat.le_of_ble_eq_true rfl) ?_ | refine nd_iinc hC dJ25_mixedInsertionSort_5 rfl rfl (Nat.le_of_ble_eq_true rfl) ?_
      refine nd_iload_n hC dJ25_mixedInsertionSort_8 rfl ?_
      refine nd_iload_n hC dJ25_mixedInsertionSort_9 rfl ?_
      first | with_reducible refine nd_icmp_geN hC (tgt := 58) (by omega) (by omega) dJ25_mixedInsertionSort_10 (by decide) (fun hq2 => ?_) (fun hq2 => ?_) | refine nd_icmp_ge hC (tgt := 58) dJ25_mixedInsertionSort_10 (by decide) (fun hq2 => ?_) (fun hq2 => ?_)
      · refine nd_goto hC (tgt := 426) dJ25_mixedInsertionSort_58 (by decide) ?_
        refine nd_return hC rfl (by omega) (by omega) dJ25_mixedInsertionSort_426 ((hk f2 hp (fun i j a b c => hs i j a b (by omega))))
      · omega
    | succ t ih =>
      intro k f2 l4 l5 ht hk1 hk2 hp hs
      first | with_reducible refine nd_iincN hC dJ25_mixedInsertionSort_5 rfl (Nat.le_of_ble_eq_true rfl) ?_ | refine nd_iinc hC dJ25_mixedInsertionSort_5 rfl rfl (Nat.le_of_ble_eq_true rfl) ?_
      refine nd_iload_n hC dJ25_mixedInsertionSort_8 rfl ?_
      refine nd_iload_n hC dJ25_mixedInsertionSort_9 rfl ?_
      first | with_reducible refine nd_icmp_geN hC (tgt := 58) (by omega) (by omega) dJ25_mixedInsertionSort_10 (by decide) (fun hq2 => ?_) (fun hq2 => ?_) | refine nd_icmp_ge hC (tgt := 58) dJ25_mixedInsertionSort_10 (by decide) (fun hq2 => ?_) (fun hq2 => ?_)
      · refine nd_goto hC (tgt := 426) dJ25_mixedInsertionSort_58 (by decide) ?_
        refine nd_return hC rfl (by omega) (by omega) dJ25_mixedInsertionSort_426 ((hk f2 hp (fun i j a b c => hs i j a b (by omega))))
      refine nd_aload_n hC dJ25_mixedInsertionSort_13 rfl rfl ?_
      refine nd_iload_n hC dJ25_mixedInsertionSort_14 rfl ?_
      refine nd_dup hC (by rfl) dJ25_mixedInsertionSort_15 ?_
      refine nd_istore hC dJ25_mixedInsertionSort_16 (Nat.le_of_ble_eq_true rfl) ?_
      refine nd_laloadN hC (List.getElem?_set_self hlt) (by omega) (by omega) dJ25_mixedInsertionSort_18 ?_
      refine nd_lstore hC dJ25_mixedInsertionSort_19 (Nat.le_of_ble_eq_true rfl) ?_
      have hse2 : (f2 (lo - 1)).toInt ≤ (f2 (k + 1)).toInt := by
        rw [hp.1 (lo - 1) (by omega)]
        exact hp.ge hse (k + 1) (by omega) (by omega)
      refine so_mx21 (q0 := lo - 1) hlt hn hC (k + 1) f2 (by omega) (by omega) hse2 (fun q q1 q2 q3 q4 => ?_)
      refine nd_aload_n hC dJ25_mixedInsertionSort_47 rfl rfl ?_
      refine nd_iload hC dJ25_mixedInsertionSort_48 rfl ?_
      refine nd_iconst hC (v := nI 1) (by rfl) dJ25_mixedInsertionSort_50 ?_
      first | with_reducible refine nd_iaddN hC dJ25_mixedInsertionSort_51 ?_ | refine nd_iadd hC dJ25_mixedInsertionSort_51 ?_
      refine nd_lload hC dJ25_mixedInsertionSort_52 rfl ?_
      refine so_ast hC hlt hn (by omega) dJ25_mixedInsertionSort_54 ?_
      refine nd_goto hC (tgt := 5) dJ25_mixedInsertionSort_55 (by decide) ?_
      rw [so_in_eq]
      exact ih (k + 1) _ _ _ (by omega) (by omega) (by omega) (hp.trans (so_in_p (by omega) (by omega) (by omega) rfl)) (so_in_s (by omega) (by omega) hs (fun _ => q3) (fun j a b => Int.le_of_lt (q4 j a b)))
  exact L1 hi lo f none none (by omega) (Nat.le_refl _) h1 so_p.rfl (so_s.one (Nat.le_refl _))
theorem so_mixed1 (hg : nd_OK g) {lo en hi : Nat} {f : Nat → Int64} (hlt : A < h.length) (hn : n + 2 ≤ 100000) (h0 : 1 ≤ lo) (h1 : lo < en) (h1b : en < hi) (hev : (hi - en) % 2 = 0) (h2 : hi ≤ n) (hse : ∀ j, lo ≤ j → j < hi → (f (lo - 1)).toInt ≤ (f j).toInt) (hk : ∀ f2, so_p lo hi f f2 → so_s lo hi f2 → K (.inl none) (h.set A (.inl (1, n, .inr (.inl (f2)))))) : nd_M g mJ25_mixedInsertionSort d 0 0 [.ref A, .int (nI lo), .int (nI en), .int (nI hi)] (h.set A (.inl (1, n, .inr (.inl (f))))) K := by
  have hn : n ≤ 100000 := by omega
  refine nd_enter hg (by decide) rfl (Nat.le_of_ble_eq_true rfl) (fun X hC => ?_)
  generalize hpin : f en = pin
  have hse2 : ∀ f2, so_p lo hi f f2 → ∀ j, lo ≤ j → j < hi → (f2 (lo - 1)).toInt ≤ (f2 j).toInt := by
    intro f2 hp j a b
    rw [hp.1 (lo - 1) (by omega)]
    exact hp.ge hse j a b
  have hsp : (f (lo - 1)).toInt ≤ pin.toInt := by rw [← hpin]; exact hse en (by omega) h1b
  have L2 : ∀ t k f2 l6 l7 l8 l9, hi ≤ k + t → lo < k → k ≤ hi → (hi - k) % 2 = 0 → so_p lo hi f f2 → so_s lo k f2 → nd_W g mJ25_mixedInsertionSort d 0 0 K X 234 [some (.ref A), some (.int (nI k)), some (.int (nI en)), some (.int (nI hi)), some (.long pin), none, l6, l7, l8, l9, none] [] (h.set A (.inl (1, n, .inr (.inl (f2))))) 0 0 := by
    intro t
    induction t with
    | zero =>
      intro k f2 l6 l7 l8 l9 ht hk1 hk2 he hp hs
      refine nd_iload_n hC dJ25_mixedInsertionSort_234 rfl ?_
      refine nd_iload_n hC dJ25_mixedInsertionSort_235 rfl ?_
      first | with_reducible refine nd_icmp_geN hC (tgt := 426) (by omega) (by omega) dJ25_mixedInsertionSort_236 (by decide) (fun hq2 => ?_) (fun hq2 => ?_) | refine nd_icmp_ge hC (tgt := 426) dJ25_mixedInsertionSort_236 (by decide) (fun hq2 => ?_) (fun hq2 => ?_)
      · refine nd_return hC rfl (by omega) (by omega) dJ25_mixedInsertionSort_426 ((hk f2 hp (fun i j a b c => hs i j a b (by omega))))
      · omega
    | succ t ih =>
      intro k f2 l6 l7 l8 l9 ht hk1 hk2 he hp hs
      refine nd_iload_n hC dJ25_mixedInsertionSort_234 rfl ?_
      refine nd_iload_n hC dJ25_mixedInsertionSort_235 rfl ?_
      first | with_reducible refine nd_icmp_geN hC (tgt := 426) (by omega) (by omega) dJ25_mixedInsertionSort_236 (by decide) (fun hq2 => ?_) (fun hq2 => ?_) | refine nd_icmp_ge hC (tgt := 426) dJ25_mixedInsertionSort_236 (by decide) (fun hq2 => ?_) (fun hq2 => ?_)
      · refine nd_return hC rfl (by omega) (by omega) dJ25_mixedInsertionSort_426 ((hk f2 hp (fun i j a b c => hs i j a b (by omega))))
      have hd1 := hse2 f2 hp k (by omega) (by omega)
      have hd2 := hse2 f2 hp (k + 1) (by omega) (by omega)
      refine nd_aload_n hC dJ25_mixedInsertionSort_239 rfl rfl ?_
      refine nd_iload_n hC dJ25_mixedInsertionSort_240 rfl ?_
      refine nd_dup hC (by rfl) dJ25_mixedInsertionSort_241 ?_
      refine nd_istore hC dJ25_mixedInsertionSort_242 (Nat.le_of_ble_eq_true rfl) ?_
      refine nd_laloadN hC (List.getElem?_set_self hlt) (by omega) (by omega) dJ25_mixedInsertionSort_244 ?_
      refine nd_lstore hC dJ25_mixedInsertionSort_245 (Nat.le_of_ble_eq_true rfl) ?_
      refine nd_aload_n hC dJ25_mixedInsertionSort_247 rfl rfl ?_
      first | with_reducible refine nd_iincN hC dJ25_mixedInsertionSort_248 rfl (Nat.le_of_ble_eq_true rfl) ?_ | refine nd_iinc hC dJ25_mixedInsertionSort_248 rfl rfl (Nat.le_of_ble_eq_true rfl) ?_
      refine nd_iload_n hC dJ25_mixedInsertionSort_251 rfl ?_
      refine nd_laloadN hC (List.getElem?_set_self hlt) (by omega) (by omega) dJ25_mixedInsertionSort_252 ?_
      refine nd_lstore hC dJ25_mixedInsertionSort_253 (Nat.le_of_ble_eq_true rfl) ?_
      refine nd_lload hC dJ25_mixedInsertionSort_255 rfl ?_
      refine nd_lload hC dJ25_mixedInsertionSort_257 rfl ?_
      refine nd_lcmp_le hC (tgt := 337) dJ25_mixedInsertionSort_259 dJ25_mixedInsertionSort_260 (by decide) (fun hq3 => ?_) (fun hq3 => ?_)
      · rw [Int64.le_iff_toInt_le] at hq3
        refine nd_lload hC dJ25_mixedInsertionSort_337 rfl ?_
        refine nd_aload_n hC dJ25_mixedInsertionSort_339 rfl rfl ?_
        refine nd_iload hC dJ25_mixedInsertionSort_340 rfl ?_
        refine nd_iconst hC (v := nI 1) (by rfl) dJ25_mixedInsertionSort_342 ?_
        first | with_reducible refine nd_isubN hC (by omega) dJ25_mixedInsertionSort_343 ?_ | refine nd_isub hC dJ25_mixedInsertionSort_343 ?_
        refine nd_laloadN hC (List.getElem?_set_self hlt) (by omega) (by omega) dJ25_mixedInsertionSort_344 ?_
        refine nd_lcmp_ge hC (tgt := 420) dJ25_mixedInsertionSort_345 dJ25_mixedInsertionSort_346 (by decide) (fun hq4 => ?_) (fun hq4 => ?_)
        · rw [Int64.le_iff_toInt_le] at hq4
          first | with_reducible refine nd_iincN hC dJ25_mixedInsertionSort_420 rfl (Nat.le_of_ble_eq_true rfl) ?_ | refine nd_iinc hC dJ25_mixedInsertionSort_420 rfl rfl (Nat.le_of_ble_eq_true rfl) ?_
          refine nd_goto hC (tgt := 234) dJ25_mixedInsertionSort_423 (by decide) ?_
          refine ih (k + 2) f2 _ _ _ _ (by omega) (by omega) (by omega) (by omega) hp (so_s.snoc ?_ hq3)
          have e : k = k - 1 + 1 := by omega
          have M := so_s.snoc (k := k - 1) (f := f2) (lo := lo) (by rw [← e]; exact hs) (by rw [← e]; exact hq4)
          rw [show k - 1 + 2 = k + 1 by omega] at M
          exact M
        · rw [Int64.le_iff_toInt_le] at hq4
          refine so_mx349 (q0 := lo - 1) hlt hn hC k f2 (by omega) (by omega) hd2 (fun q1 a1 a2 a3 a4 => ?_)
          refine nd_aload_n hC dJ25_mixedInsertionSort_375 rfl rfl ?_
          first | with_reducible refine nd_iincN hC dJ25_mixedInsertionSort_376 rfl (Nat.le_of_ble_eq_true rfl) ?_ | refine nd_iinc hC dJ25_mixedInsertionSort_376 rfl rfl (Nat.le_of_ble_eq_true rfl) ?_
          refine nd_iload hC dJ25_mixedInsertionSort_379 rfl ?_
          refine nd_iconst hC (v := nI 1) (by rfl) dJ25_mixedInsertionSort_381 ?_
          first | with_reducible refine nd_iaddN hC dJ25_mixedInsertionSort_382 ?_ | refine nd_iadd hC dJ25_mixedInsertionSort_382 ?_
          refine nd_lload hC dJ25_mixedInsertionSort_383 rfl ?_
          refine so_ast hC hlt hn (by omega) dJ25_mixedInsertionSort_385 ?_
          refine so_mx386 (q0 := lo - 1) hlt hn hC (q1 + 1) _ (by omega) (by omega) (by rw [uL_n (by omega)]; unfold so_sh; rw [if_neg (by omega)]; exact hd1) (fun q2 b1 b2 b3 b4 => ?_)
          have b3' : (f2 q2).toInt ≤ (f2 k).toInt := by
            rw [uL_n (by omega)] at b3; unfold so_sh at b3; rw [if_neg (by omega)] at b3; exact b3
          have b4' : ∀ j, q2 < j → j < q1 + 1 → (f2 k).toInt < (f2 j).toInt := by
            intro j c1 c2
            have M := b4 j c1 c2
            rw [uL_n (by omega)] at M; unfold so_sh at M; rw [if_neg (by omega)] at M; exact M
          refine nd_aload_n hC dJ25_mixedInsertionSort_412 rfl rfl ?_
          refine nd_iload hC dJ25_mixedInsertionSort_413 rfl ?_
          refine nd_iconst hC (v := nI 1) (by rfl) dJ25_mixedInsertionSort_415 ?_
          first | with_reducible refine nd_iaddN hC dJ25_mixedInsertionSort_416 ?_ | refine nd_iadd hC dJ25_mixedInsertionSort_416 ?_
          refine nd_lload hC dJ25_mixedInsertionSort_417 rfl ?_
          refine so_ast hC hlt hn (by omega) dJ25_mixedInsertionSort_419 ?_
          first | with_reducible refine nd_iincN hC dJ25_mixedInsertionSort_420 rfl (Nat.le_of_ble_eq_true rfl) ?_ | refine nd_iinc hC dJ25_mixedInsertionSort_420 rfl rfl (Nat.le_of_ble_eq_true rfl) ?_
          refine nd_goto hC (tgt := 234) dJ25_mixedInsertionSort_423 (by decide) ?_
          have R := so_pair (lo := lo) (hi := hi) (x := f2 (k + 1)) (y := f2 k) (f := f2) (Or.inr ⟨rfl, rfl⟩) hq3 (by omega) (by omega) a2 (by omega) hs a3 a4 b3' b4'
          rw [show q1 + 1 + 1 = q1 + 2 from rfl, so_pair_eq (by omega) a2]
          exact ih (k + 2) _ _ _ _ _ (by omega) (by omega) (by omega) (by omega) (hp.trans R.1) R.2
      · rw [Int64.le_iff_toInt_le] at hq3
        refine so_mx263 (q0 := lo - 1) hlt hn hC k f2 (by omega) (by omega) hd1 (fun q1 a1 a2 a3 a4 => ?_)
        refine nd_aload_n hC dJ25_mixedInsertionSort_289 rfl rfl ?_
        first | with_reducible refine nd_iincN hC dJ25_mixedInsertionSort_290 rfl (Nat.le_of_ble_eq_true rfl) ?_ | refine nd_iinc hC dJ25_mixedInsertionSort_290 rfl rfl (Nat.le_of_ble_eq_true rfl) ?_
        refine nd_iload hC dJ25_mixedInsertionSort_293 rfl ?_
        refine nd_iconst hC (v := nI 1) (by rfl) dJ25_mixedInsertionSort_295 ?_
        first | with_reducible refine nd_iaddN hC dJ25_mixedInsertionSort_296 ?_ | refine nd_iadd hC dJ25_mixedInsertionSort_296 ?_
        refine nd_lload hC dJ25_mixedInsertionSort_297 rfl ?_
        refine so_ast hC hlt hn (by omega) dJ25_mixedInsertionSort_299 ?_
        refine so_mx300 (q0 := lo - 1) hlt hn hC (q1 + 1) _ (by omega) (by omega) (by rw [uL_n (by omega)]; unfold so_sh; rw [if_neg (by omega)]; exact hd2) (fun q2 b1 b2 b3 b4 => ?_)
        have b3' : (f2 q2).toInt ≤ (f2 (k + 1)).toInt := by
          rw [uL_n (by omega)] at b3; unfold so_sh at b3; rw [if_neg (by omega)] at b3; exact b3
        have b4' : ∀ j, q2 < j → j < q1 + 1 → (f2 (k + 1)).toInt < (f2 j).toInt := by
          intro j c1 c2
          have M := b4 j c1 c2
          rw [uL_n (by omega)] at M; unfold so_sh at M; rw [if_neg (by omega)] at M; exact M
        refine nd_aload_n hC dJ25_mixedInsertionSort_326 rfl rfl ?_
        refine nd_iload hC dJ25_mixedInsertionSort_327 rfl ?_
        refine nd_iconst hC (v := nI 1) (by rfl) dJ25_mixedInsertionSort_329 ?_
        first | with_reducible refine nd_iaddN hC dJ25_mixedInsertionSort_330 ?_ | refine nd_iadd hC dJ25_mixedInsertionSort_330 ?_
        refine nd_lload hC dJ25_mixedInsertionSort_331 rfl ?_
        refine so_ast hC hlt hn (by omega) dJ25_mixedInsertionSort_333 ?_
        refine nd_goto hC (tgt := 420) dJ25_mixedInsertionSort_334 (by decide) ?_
        first | with_reducible refine nd_iincN hC dJ25_mixedInsertionSort_420 rfl (Nat.le_of_ble_eq_true rfl) ?_ | refine nd_iinc hC dJ25_mixedInsertionSort_420 rfl rfl (Nat.le_of_ble_eq_true rfl) ?_
        refine nd_goto hC (tgt := 234) dJ25_mixedInsertionSort_423 (by decide) ?_
        have R := so_pair (lo := lo) (hi := hi) (x := f2 k) (y := f2 (k + 1)) (f := f2) (Or.inl ⟨rfl, rfl⟩) (by omega) (by omega) (by omega) a2 (by omega) hs a3 a4 b3' b4'
        rw [show q1 + 1 + 1 = q1 + 2 from rfl, so_pair_eq (by omega) a2]
        exact ih (k + 2) _ _ _ _ _ (by omega) (by omega) (by omega) (by omega) (hp.trans R.1) R.2
  have L1 : ∀ t k f2 P l6 l8, en ≤ k + 1 + t → lo ≤ k → k < en → P ≤ hi → so_p lo hi f f2 → so_s lo (k + 1) f2 → nd_W g mJ25_mixedInsertionSort d 0 0 K X 69 [some (.ref A), some (.int (nI k)), some (.int (nI en)), some (.int (nI hi)), some (.long pin), none, l6, some (.int (nI P)), l8, none, none] [] (h.set A (.inl (1, n, .inr (.inl (f2))))) 0 0 := by
    intro t
    induction t with
    | zero =>
      intro k f2 P l6 l8 ht hk1 hk2 hP hp hs
      first | with_reducible refine nd_iincN hC dJ25_mixedInsertionSort_69 rfl (Nat.le_of_ble_eq_true rfl) ?_ | refine nd_iinc hC dJ25_mixedInsertionSort_69 rfl rfl (Nat.le_of_ble_eq_true rfl) ?_
      refine nd_iload_n hC dJ25_mixedInsertionSort_72 rfl ?_
      refine nd_iload_n hC dJ25_mixedInsertionSort_73 rfl ?_
      first | with_reducible refine nd_icmp_geN hC (tgt := 234) (by omega) (by omega) dJ25_mixedInsertionSort_74 (by decide) (fun hq2 => ?_) (fun hq2 => ?_) | refine nd_icmp_ge hC (tgt := 234) dJ25_mixedInsertionSort_74 (by decide) (fun hq2 => ?_) (fun hq2 => ?_)
      · exact L2 hi (k + 1) f2 _ _ _ _ (by omega) (by omega) (by omega) (by rw [show k + 1 = en by omega]; exact hev) hp hs
      · omega
    | succ t ih =>
      intro k f2 P l6 l8 ht hk1 hk2 hP hp hs
      first | with_reducible refine nd_iincN hC dJ25_mixedInsertionSort_69 rfl (Nat.le_of_ble_eq_true rfl) ?_ | refine nd_iinc hC dJ25_mixedInsertionSort_69 rfl rfl (Nat.le_of_ble_eq_true rfl) ?_
      refine nd_iload_n hC dJ25_mixedInsertionSort_72 rfl ?_
      refine nd_iload_n hC dJ25_mixedInsertionSort_73 rfl ?_
      first | with_reducible refine nd_icmp_geN hC (tgt := 234) (by omega) (by omega) dJ25_mixedInsertionSort_74 (by decide) (fun hq2 => ?_) (fun hq2 => ?_) | refine nd_icmp_ge hC (tgt := 234) dJ25_mixedInsertionSort_74 (by decide) (fun hq2 => ?_) (fun hq2 => ?_)
      · exact L2 hi (k + 1) f2 _ _ _ _ (by omega) (by omega) (by omega) (by rw [show k + 1 = en by omega]; exact hev) hp hs
      have hd1 := hse2 f2 hp (k + 1) (by omega) (by omega)
      refine nd_aload_n hC dJ25_mixedInsertionSort_77 rfl rfl ?_
      refine nd_iload_n hC dJ25_mixedInsertionSort_78 rfl ?_
      refine nd_dup hC (by rfl) dJ25_mixedInsertionSort_79 ?_
      refine nd_istore hC dJ25_mixedInsertionSort_80 (Nat.le_of_ble_eq_true rfl) ?_
      refine nd_laloadN hC (List.getElem?_set_self hlt) (by omega) (by omega) dJ25_mixedInsertionSort_82 ?_
      refine nd_lstore hC dJ25_mixedInsertionSort_83 (Nat.le_of_ble_eq_true rfl) ?_
      refine nd_lload hC dJ25_mixedInsertionSort_85 rfl ?_
      refine nd_aload_n hC dJ25_mixedInsertionSort_87 rfl rfl ?_
      refine nd_iload hC dJ25_mixedInsertionSort_88 rfl ?_
      refine nd_iconst hC (v := nI 1) (by rfl) dJ25_mixedInsertionSort_90 ?_
      first | with_reducible refine nd_isubN hC (by omega) dJ25_mixedInsertionSort_91 ?_ | refine nd_isub hC dJ25_mixedInsertionSort_91 ?_
      refine nd_laloadN hC (List.getElem?_set_self hlt) (by omega) (by omega) dJ25_mixedInsertionSort_92 ?_
      rw [show k + 1 - 1 = k from rfl]
      refine nd_lcmp_ge hC (tgt := 145) dJ25_mixedInsertionSort_93 dJ25_mixedInsertionSort_94 (by decide) (fun hq3 => ?_) (fun hq3 => ?_)
      · rw [Int64.le_iff_toInt_le] at hq3
        have stay : ∀ P2 l6 l8, P2 ≤ hi → nd_W g mJ25_mixedInsertionSort d 0 0 K X 231 [some (.ref A), some (.int (nI (k + 1))), some (.int (nI en)), some (.int (nI hi)), some (.long pin), none, l6, some (.int (nI P2)), l8, none, none] [] (h.set A (.inl (1, n, .inr (.inl (f2))))) 0 0 := by
          intro P2 l6 l8 hP2
          refine nd_goto hC (tgt := 69) dJ25_mixedInsertionSort_231 (by decide) ?_
          exact ih (k + 1) f2 P2 _ _ (by omega) (by omega) (by omega) hP2 hp (so_s.snoc hs hq3)
        refine nd_iload hC dJ25_mixedInsertionSort_145 rfl ?_
        refine nd_iload hC dJ25_mixedInsertionSort_147 rfl ?_
        first | with_reducible refine nd_icmp_leN hC (tgt := 231) (by omega) (by omega) dJ25_mixedInsertionSort_149 (by decide) (fun hq4 => ?_) (fun hq4 => ?_) | refine nd_icmp_le hC (tgt := 231) dJ25_mixedInsertionSort_149 (by decide) (fun hq4 => ?_) (fun hq4 => ?_)
        · exact stay P _ _ hP
        refine nd_lload hC dJ25_mixedInsertionSort_152 rfl ?_
        refine nd_lload hC dJ25_mixedInsertionSort_154 rfl ?_
        refine nd_lcmp_le hC (tgt := 231) dJ25_mixedInsertionSort_156 dJ25_mixedInsertionSort_157 (by decide) (fun hq5 => ?_) (fun hq5 => ?_)
        · exact stay P _ _ hP
        refine so_mx160 (q0 := lo - 1) hlt hn hC (by rw [hp.1 (lo - 1) (by omega)]; exact hsp) P (by omega) (by omega) (fun P2 c1 c2 => ?_)
        refine nd_iload hC dJ25_mixedInsertionSort_176 rfl ?_
        refine nd_iload hC dJ25_mixedInsertionSort_178 rfl ?_
        first | with_reducible refine nd_icmp_leN hC (tgt := 197) (by omega) (by omega) dJ25_mixedInsertionSort_180 (by decide) (fun hq6 => ?_) (fun hq6 => ?_) | refine nd_icmp_le hC (tgt := 197) dJ25_mixedInsertionSort_180 (by decide) (fun hq6 => ?_) (fun hq6 => ?_)
        · refine so_mx197 (q0 := lo - 1) hlt hn hC (k + 1) f2 (by omega) (by omega) hd1 (fun q a1 a2 a3 a4 => ?_)
          refine nd_aload_n hC dJ25_mixedInsertionSort_223 rfl rfl ?_
          refine nd_iload hC dJ25_mixedInsertionSort_224 rfl ?_
          refine nd_iconst hC (v := nI 1) (by rfl) dJ25_mixedInsertionSort_226 ?_
          first | with_reducible refine nd_iaddN hC dJ25_mixedInsertionSort_227 ?_ | refine nd_iadd hC dJ25_mixedInsertionSort_227 ?_
          refine nd_lload hC dJ25_mixedInsertionSort_228 rfl ?_
          refine so_ast hC hlt hn (by omega) dJ25_mixedInsertionSort_230 ?_
          refine nd_goto hC (tgt := 69) dJ25_mixedInsertionSort_231 (by decide) ?_
          rw [so_in_eq]
          exact ih (k + 1) _ P2 _ _ (by omega) (by omega) (by omega) (by omega) (hp.trans (so_in_p (by omega) a2 (by omega) rfl)) (so_in_s (by omega) a2 hs (fun _ => a3) (fun j a b => Int.le_of_lt (a4 j a b)))
        · refine nd_aload_n hC dJ25_mixedInsertionSort_183 rfl rfl ?_
          refine nd_iload hC dJ25_mixedInsertionSort_184 rfl ?_
          refine nd_laloadN hC (List.getElem?_set_self hlt) (by omega) (by omega) dJ25_mixedInsertionSort_186 ?_
          refine nd_lstore hC dJ25_mixedInsertionSort_187 (Nat.le_of_ble_eq_true rfl) ?_
          refine nd_aload_n hC dJ25_mixedInsertionSort_189 rfl rfl ?_
          refine nd_iload hC dJ25_mixedInsertionSort_190 rfl ?_
          refine nd_aload_n hC dJ25_mixedInsertionSort_192 rfl rfl ?_
          refine nd_iload hC dJ25_mixedInsertionSort_193 rfl ?_
          refine nd_laloadN hC (List.getElem?_set_self hlt) (by omega) (by omega) dJ25_mixedInsertionSort_195 ?_
          refine so_ast hC hlt hn (by omega) dJ25_mixedInsertionSort_196 ?_
          have hd2 := hse2 f2 hp P2 (by omega) (by omega)
          refine so_mx197 (q0 := lo - 1) hlt hn hC (k + 1) _ (by omega) (by omega) (by rw [uL_n (by omega)]; exact hd2) (fun q a1 a2 a3 a4 => ?_)
          refine nd_aload_n hC dJ25_mixedInsertionSort_223 rfl rfl ?_
          refine nd_iload hC dJ25_mixedInsertionSort_224 rfl ?_
          refine nd_iconst hC (v := nI 1) (by rfl) dJ25_mixedInsertionSort_226 ?_
          first | with_reducible refine nd_iaddN hC dJ25_mixedInsertionSort_227 ?_ | refine nd_iadd hC dJ25_mixedInsertionSort_227 ?_
          refine nd_lload hC dJ25_mixedInsertionSort_228 rfl ?_
          refine so_ast hC hlt hn (by omega) dJ25_mixedInsertionSort_230 ?_
          refine nd_goto hC (tgt := 69) dJ25_mixedInsertionSort_231 (by decide) ?_
          rw [so_in_eq]
          have hsw : so_p lo hi f2 (vp_updL (vp_updL f2 P2 (f2 (k + 1))) (k + 1) (f2 P2)) := so_p.swap (i := P2) (j := k + 1) (by omega) (by omega) (by omega) (by omega) (by rw [uL_n (by omega), uL_s]) (by rw [uL_s]) (fun q z1 z2 => by rw [uL_n z2, uL_n z1])
          refine ih (k + 1) _ P2 _ _ (by omega) (by omega) (by omega) (by omega) (hp.trans (hsw.trans ?_)) (so_in_s (by omega) a2 (fun i j b1 b2 b3 => ?_) (fun _ => a3) (fun j a b => Int.le_of_lt (a4 j a b)))
          · have M := so_in_p (lo := lo) (hi := hi) (q := q) (p := k + 1) (v := f2 P2) (f := vp_updL (vp_updL f2 P2 (f2 (k + 1))) (k + 1) (f2 P2)) (by omega) a2 (by omega) uL_s
            rw [so_in_upd a2] at M
            exact M
          · rw [uL_n (by omega), uL_n (by omega)]; exact hs i j b1 b2 b3
      · rw [Int64.le_iff_toInt_le] at hq3
        refine nd_aload_n hC dJ25_mixedInsertionSort_97 rfl rfl ?_
        refine nd_iload hC dJ25_mixedInsertionSort_98 rfl ?_
        refine nd_aload_n hC dJ25_mixedInsertionSort_100 rfl rfl ?_
        first | with_reducible refine nd_iincN hC dJ25_mixedInsertionSort_101 rfl (Nat.le_of_ble_eq_true rfl) ?_ | refine nd_iinc hC dJ25_mixedInsertionSort_101 rfl rfl (Nat.le_of_ble_eq_true rfl) ?_
        rw [i_dec, i_pred (by omega)]
        refine nd_iload hC dJ25_mixedInsertionSort_104 rfl ?_
        refine nd_laloadN hC (List.getElem?_set_self hlt) (by omega) (by omega) dJ25_mixedInsertionSort_106 ?_
        refine so_ast hC hlt hn (by omega) dJ25_mixedInsertionSort_107 ?_
        refine so_mx108 (q0 := lo - 1) hlt hn hC k _ (by omega) (by omega) (by rw [uL_n (by omega)]; exact hd1) (fun q a1 a2 a3 a4 => ?_)
        refine nd_aload_n hC dJ25_mixedInsertionSort_134 rfl rfl ?_
        refine nd_iload hC dJ25_mixedInsertionSort_135 rfl ?_
        refine nd_iconst hC (v := nI 1) (by rfl) dJ25_mixedInsertionSort_137 ?_
        first | with_reducible refine nd_iaddN hC dJ25_mixedInsertionSort_138 ?_ | refine nd_iadd hC dJ25_mixedInsertionSort_138 ?_
        refine nd_lload hC dJ25_mixedInsertionSort_139 rfl ?_
        refine so_ast hC hlt hn (by omega) dJ25_mixedInsertionSort_141 ?_
        refine nd_goto hC (tgt := 231) dJ25_mixedInsertionSort_142 (by decide) ?_
        refine nd_goto hC (tgt := 69) dJ25_mixedInsertionSort_231 (by decide) ?_
        rw [so_sh_step (Nat.le_refl 1) a2, so_in_eq]
        rw [uL_n (by omega)] at a3
        refine ih (k + 1) _ P _ _ (by omega) (by omega) (by omega) hP (hp.trans (so_in_p (by omega) (by omega) (by omega) rfl)) (so_in_s (by omega) (by omega) hs (fun _ => a3) (fun j a b => ?_))
        by_cases e : j = k
        · subst e; omega
        · have M := a4 j a (by omega)
          rw [uL_n (by omega)] at M
          exact Int.le_of_lt M
  refine nd_iload_n hC dJ25_mixedInsertionSort_0 rfl ?_
  refine nd_iload_n hC dJ25_mixedInsertionSort_1 rfl ?_
  first | with_reducible refine nd_icmp_neN hC (tgt := 61) (by omega) (by omega) dJ25_mixedInsertionSort_2 (by decide) (fun hq => ?_) (fun hq => ?_) | refine nd_icmp_ne hC (tgt := 61) dJ25_mixedInsertionSort_2 (by decide) (fun hq => ?_) (fun hq => ?_)
  · refine nd_aload_n hC dJ25_mixedInsertionSort_61 rfl rfl ?_
    refine nd_iload_n hC dJ25_mixedInsertionSort_62 rfl ?_
    refine nd_laloadN hC (List.getElem?_set_self hlt) (by omega) (by omega) dJ25_mixedInsertionSort_63 ?_
    rw [hpin]
    refine nd_lstore hC dJ25_mixedInsertionSort_64 (Nat.le_of_ble_eq_true rfl) ?_
    refine nd_iload_n hC dJ25_mixedInsertionSort_66 rfl ?_
    refine nd_istore hC dJ25_mixedInsertionSort_67 (Nat.le_of_ble_eq_true rfl) ?_
    exact L1 en lo f hi none none (by omega) (Nat.le_refl _) h1 (Nat.le_refl _) so_p.rfl (so_s.one (Nat.le_refl _))
  · omega
end SO9902


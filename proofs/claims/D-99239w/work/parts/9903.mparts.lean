set_option maxRecDepth 100000
/-! ===== merging two sorted parts ===== -/
def mg (k0 a b : Nat) (u : Nat → Int64) (c e : Nat) (w : Nat → Int64) (g0 : Nat → Int64) (i j : Nat) (g : Nat → Int64) : Prop :=
  (∀ q, ¬ (k0 ≤ q ∧ q < k0 + i + j) → g q = g0 q) ∧ so_s k0 (k0 + i + j) g ∧
  (∀ q, k0 ≤ q → q < k0 + i + j → (∀ x, a + i ≤ x → x < b → (g q).toInt ≤ (u x).toInt) ∧ (∀ x, c + j ≤ x → x < e → (g q).toInt ≤ (w x).toInt) ∧ ((∃ x, a ≤ x ∧ x < a + i ∧ g q = u x) ∨ ∃ x, c ≤ x ∧ x < c + j ∧ g q = w x)) ∧
  (∀ x, a ≤ x → x < a + i → ∃ q, k0 ≤ q ∧ q < k0 + i + j ∧ g q = u x) ∧
  (∀ x, c ≤ x → x < c + j → ∃ q, k0 ≤ q ∧ q < k0 + i + j ∧ g q = w x)
theorem mg.sym {k0 a b c e i j : Nat} {u w g0 g : Nat → Int64} (H : mg k0 a b u c e w g0 i j g) : mg k0 c e w a b u g0 j i g := by
  have E : k0 + j + i = k0 + i + j := by omega
  obtain ⟨h1, h2, h3, h4, h5⟩ := H
  unfold mg
  rw [E]
  exact ⟨h1, h2, fun q q1 q2 => ⟨(h3 q q1 q2).2.1, (h3 q q1 q2).1, (h3 q q1 q2).2.2.symm⟩, h5, h4⟩
theorem mg.zero {k0 a b c e : Nat} {u w g0 : Nat → Int64} : mg k0 a b u c e w g0 0 0 g0 :=
  ⟨fun _ _ => rfl, fun i j q1 q2 q3 => by omega, fun q q1 q2 => by omega, fun x q1 q2 => by omega, fun x q1 q2 => by omega⟩
theorem mg.one {k0 a b c e i j : Nat} {u w g0 g : Nat → Int64} (H : mg k0 a b u c e w g0 i j g) (hu : so_s a b u) (hw : so_s c e w) (hi : a + i < b) (hle : c + j < e → (u (a + i)).toInt ≤ (w (c + j)).toInt) : mg k0 a b u c e w g0 (i + 1) j (vp_updL g (k0 + i + j) (u (a + i))) := by
  obtain ⟨h1, h2, h3, h4, h5⟩ := H
  refine ⟨fun q hq => ?_, fun x y q1 q2 q3 => ?_, fun q q1 q2 => ?_, fun x q1 q2 => ?_, fun x q1 q2 => ?_⟩
  · rw [uL_n (by omega)]; exact h1 q (by omega)
  · by_cases e1 : y = k0 + i + j
    · subst e1
      rw [uL_s]
      by_cases e2 : x = k0 + i + j
      · subst e2; rw [uL_s]; exact Int.le_refl _
      · rw [uL_n e2]; exact (h3 x q1 (by omega)).1 (a + i) (by omega) hi
    · rw [uL_n e1, uL_n (by omega)]; exact h2 x y q1 q2 (by omega)
  · by_cases e1 : q = k0 + i + j
    · subst e1
      rw [uL_s]
      refine ⟨fun x r1 r2 => hu _ _ (by omega) (by omega) r2, fun x r1 r2 => ?_, Or.inl ⟨a + i, by omega, by omega, rfl⟩⟩
      have := hle (by omega)
      have := hw (c + j) x (by omega) r1 r2
      omega
    · rw [uL_n e1]
      obtain ⟨r1, r2, r3⟩ := h3 q q1 (by omega)
      refine ⟨fun x s1 s2 => r1 x (by omega) s2, r2, ?_⟩
      rcases r3 with ⟨x, s1, s2, s3⟩ | s
      · exact Or.inl ⟨x, s1, by omega, s3⟩
      · exact Or.inr s
  · by_cases e1 : x = a + i
    · subst e1; exact ⟨k0 + i + j, by omega, by omega, uL_s⟩
    · obtain ⟨q, r1, r2, r3⟩ := h4 x q1 (by omega)
      exact ⟨q, r1, by omega, by rw [uL_n (by omega)]; exact r3⟩
  · obtain ⟨q, r1, r2, r3⟩ := h5 x q1 q2
    exact ⟨q, r1, by omega, by rw [uL_n (by omega)]; exact r3⟩
theorem mg.two {k0 a b c e i j : Nat} {u w g0 g : Nat → Int64} (H : mg k0 a b u c e w g0 i j g) (hu : so_s a b u) (hw : so_s c e w) (hi : c + j < e) (hle : a + i < b → (w (c + j)).toInt ≤ (u (a + i)).toInt) : mg k0 a b u c e w g0 i (j + 1) (vp_updL g (k0 + i + j) (w (c + j))) := by
  have M := (H.sym.one hw hu hi hle).sym
  rw [show k0 + j + i = k0 + i + j by omega] at M
  exact M
/-- what is left of the second part lies in its place -/
theorem mg.rest {k0 a b c e : Nat} {u w g : Nat → Int64} (hu : so_s a b u) (hw : so_s c e w) (hc : c = k0 + (b - a)) (hab : a ≤ b) (hce : c ≤ e) : ∀ t j, c + j + t = e → mg k0 a b u c e w w (b - a) j g → mg k0 a b u c e w w (b - a) (e - c) g := by
  intro t
  induction t with
  | zero => intro j hj H; rw [show e - c = j by omega]; exact H
  | succ t ih =>
    intro j hj H
    refine ih (j + 1) (by omega) ?_
    have M := H.two hu hw (by omega) (fun z => by omega)
    have e2 : w (c + j) = g (k0 + (b - a) + j) := by
      rw [H.1 _ (by omega), hc]
    rw [e2, uL_id] at M
    exact M
def so_hh (h : nd_H) (D nD : Nat) (g : Nat → Int64) (S nS : Nat) (u : Nat → Int64) : nd_H := (h.set D (.inl (1, nD, .inr (.inl g)))).set S (.inl (1, nS, .inr (.inl u)))
theorem so_hh.len {h : nd_H} {D nD S nS : Nat} {g u : Nat → Int64} : (so_hh h D nD g S nS u).length = h.length := by unfold so_hh; rw [List.length_set, List.length_set]
theorem so_hh.s {h : nd_H} {D nD S nS : Nat} {g u : Nat → Int64} (hS : S < h.length) : (so_hh h D nD g S nS u)[S]? = some (.inl (1, nS, .inr (.inl u))) := by unfold so_hh; exact List.getElem?_set_self (by rw [List.length_set]; exact hS)
theorem so_hh.d {h : nd_H} {D nD S nS : Nat} {g u : Nat → Int64} (hD : D < h.length) (hne : D ≠ S) : (so_hh h D nD g S nS u)[D]? = some (.inl (1, nD, .inr (.inl g))) := by unfold so_hh; rw [List.getElem?_set_ne (Ne.symm hne)]; exact List.getElem?_set_self hD
theorem so_hh.o {h : nd_H} {D nD S nS a : Nat} {g u : Nat → Int64} (h1 : a ≠ D) (h2 : a ≠ S) : (so_hh h D nD g S nS u)[a]? = h[a]? := by unfold so_hh; rw [List.getElem?_set_ne (Ne.symm h2), List.getElem?_set_ne (Ne.symm h1)]
theorem so_hh.comm {h : nd_H} {D nD S nS : Nat} {g u : Nat → Int64} (hne : D ≠ S) : so_hh h D nD g S nS u = so_hh h S nS u D nD g := by unfold so_hh; exact List.set_comm _ _ hne
section SO9903
variable {g : nd_G} {mm : nd_Mt} {d mc ms : Nat} {K : nd_K} {X : nd_X} {pc : Nat} {lv : List (Option Value)} {st : List Value} {h : nd_H} {cs ss : Nat}
theorem nd_acmp_neR (hC : nd_Cx g mm X) {a b : Nat} {off : Int} {tgt : Nat} (hd : decode mm.2.1 pc = .ok (.if_acmp .ne off, 3)) (ht : (pc : Int) + off = (tgt : Int)) (kt : a ≠ b → nd_W g mm d mc ms K X tgt lv st h cs ss) (kf : a = b → nd_W g mm d mc ms K X (pc + 3) lv st h cs ss) : nd_W g mm d mc ms K X pc lv (.ref b :: .ref a :: st) h cs ss :=
  fun H ls locs hl hR hS => lv_acmp_ne (rx := some (nd_z g + a)) (ry := some (nd_z g + b)) hC.1 hC.2.1 hd ht (fun q => kt (fun z => q (by rw [z])) H ls locs hl hR hS) (fun q => kf (by have q2 := Option.some.inj q; omega) H ls locs hl hR hS)
theorem so_hst (hC : nd_Cx g mm X) {D nD S nS j : Nat} {f u : Nat → Int64} {x : Int64} (hD : D < h.length) (hne : D ≠ S) (hn : nD ≤ 100000) (hj : j < nD) (hd : decode mm.2.1 pc = .ok (.lastore, 1)) (kk : nd_W g mm d mc ms K X (pc + 1) lv st (so_hh h D nD (vp_updL f j x) S nS u) cs ss) : nd_W g mm d mc ms K X pc lv (.long x :: .int (nI j) :: .ref D :: st) (so_hh h D nD f S nS u) cs ss := by
  refine nd_lastoreN hC (so_hh.d hD hne) hj (by omega) hd ?_
  unfold so_hh at kk ⊢
  rw [List.set_comm _ _ (Ne.symm hne), List.set_set]
  exact kk
theorem so_mparts (hg : nd_OK g) {D nD S nS k0 a b c e a2 : Nat} {u w g0 : Nat → Int64} (hD : D < h.length) (hS : S < h.length) (hne : D ≠ S) (hnD : nD ≤ 100000) (hnS : nS ≤ 100000) (hab : a ≤ b) (hce : c ≤ e) (hb : b ≤ nS) (hk0 : k0 + (b - a) + (e - c) ≤ nD) (h2 : (a2 = S ∧ w = u ∧ e ≤ nS) ∨ (a2 = D ∧ w = g0 ∧ e ≤ nD ∧ c = k0 + (b - a))) (hu : so_s a b u) (hw : so_s c e w) (hk : ∀ g1, mg k0 a b u c e w g0 (b - a) (e - c) g1 → K (.inl none) (so_hh h D nD g1 S nS u)) : nd_M g mJ25_mergeParts d 0 0 [.null, .ref D, .int (nI k0), .ref S, .int (nI a), .int (nI b), .ref a2, .int (nI c), .int (nI e)] (so_hh h D nD g0 S nS u) K := by
  have rd : ∀ i j g1, a + i ≤ b → c + j < e → mg k0 a b u c e w g0 i j g1 → ∃ n2 w2, (so_hh h D nD g1 S nS u)[a2]? = some (.inl (1, n2, .inr (.inl w2))) ∧ c + j < n2 ∧ n2 ≤ 100000 ∧ w2 (c + j) = w (c + j) := by
    intro i j g1 hi hj H
    rcases h2 with ⟨e1, e2, e3⟩ | ⟨e1, e2, e3, e4⟩
    · exact ⟨nS, u, by rw [e1]; exact so_hh.s hS, by omega, hnS, by rw [e2]⟩
    · exact ⟨nD, g1, by rw [e1]; exact so_hh.d hD hne, by omega, hnD, by rw [H.1 _ (by omega), e2]⟩
  refine nd_enter hg (by decide) rfl (Nat.le_of_ble_eq_true rfl) (fun X hC => ?_)
  refine nd_aload_n hC dJ25_mergeParts_0 rfl rfl ?_
  refine nd_isnullN hC (tgt := 171) dJ25_mergeParts_1 (by decide) ?_
  have L3 : ∀ t j g1, c + j + t = e → mg k0 a b u c e w g0 (b - a) j g1 → nd_W g mJ25_mergeParts d 0 0 K X 271 [some .null, some (.ref D), some (.int (nI (k0 + (b - a) + j))), some (.ref S), some (.int (nI b)), some (.int (nI b)), some (.ref a2), some (.int (nI (c + j))), some (.int (nI e)), none, none, none, none, none, none] [] (so_hh h D nD g1 S nS u) 0 0 := by
    intro t
    induction t with
    | zero =>
      intro j g1 hj H
      refine nd_iload hC dJ25_mergeParts_271 rfl ?_
      refine nd_iload hC dJ25_mergeParts_273 rfl ?_
      first | with_reducible refine nd_icmp_geN hC (tgt := 295) (by omega) (by omega) dJ25_mergeParts_275 (by decide) (fun hq => ?_) (fun hq => ?_) | refine nd_icmp_ge hC (tgt := 295) dJ25_mergeParts_275 (by decide) (fun hq => ?_) (fun hq => ?_)
      · refine nd_return hC rfl (by omega) (by omega) dJ25_mergeParts_295 ((hk g1 (by rw [show e - c = j by omega]; exact H)))
      · omega
    | succ t ih =>
      intro j g1 hj H
      refine nd_iload hC dJ25_mergeParts_271 rfl ?_
      refine nd_iload hC dJ25_mergeParts_273 rfl ?_
      first | with_reducible refine nd_icmp_geN hC (tgt := 295) (by omega) (by omega) dJ25_mergeParts_275 (by decide) (fun hq => ?_) (fun hq => ?_) | refine nd_icmp_ge hC (tgt := 295) dJ25_mergeParts_275 (by decide) (fun hq => ?_) (fun hq => ?_)
      · omega
      obtain ⟨n2, w2, r1, r2, r3, r4⟩ := rd (b - a) j g1 (by omega) (by omega) H
      refine nd_aload_n hC dJ25_mergeParts_278 rfl rfl ?_
      refine nd_iload_n hC dJ25_mergeParts_279 rfl ?_
      first | with_reducible refine nd_iincN hC dJ25_mergeParts_280 rfl (Nat.le_of_ble_eq_true rfl) ?_ | refine nd_iinc hC dJ25_mergeParts_280 rfl rfl (Nat.le_of_ble_eq_true rfl) ?_
      refine nd_aload hC dJ25_mergeParts_283 rfl rfl ?_
      refine nd_iload hC dJ25_mergeParts_285 rfl ?_
      first | with_reducible refine nd_iincN hC dJ25_mergeParts_287 rfl (Nat.le_of_ble_eq_true rfl) ?_ | refine nd_iinc hC dJ25_mergeParts_287 rfl rfl (Nat.le_of_ble_eq_true rfl) ?_
      refine nd_laloadN hC r1 r2 (by omega) dJ25_mergeParts_290 ?_
      rw [r4]
      refine so_hst hC hD hne hnD (by omega) dJ25_mergeParts_291 ?_
      refine nd_goto hC (tgt := 271) dJ25_mergeParts_292 (by decide) ?_
      exact ih (j + 1) _ (by omega) (H.two hu hw (by omega) (fun z => by omega))
  have L2 : ∀ t i j g1, a + i + t = b → c + j ≤ e → (a + i = b ∨ c + j = e) → mg k0 a b u c e w g0 i j g1 → nd_W g mJ25_mergeParts d 0 0 K X 236 [some .null, some (.ref D), some (.int (nI (k0 + i + j))), some (.ref S), some (.int (nI (a + i))), some (.int (nI b)), some (.ref a2), some (.int (nI (c + j))), some (.int (nI e)), none, none, none, none, none, none] [] (so_hh h D nD g1 S nS u) 0 0 := by
    intro t
    induction t with
    | zero =>
      intro i j g1 hi hj hor H
      have ei : i = b - a := by omega
      subst ei
      rw [show a + (b - a) = b by omega]
      refine nd_iload hC dJ25_mergeParts_236 rfl ?_
      refine nd_iload hC dJ25_mergeParts_238 rfl ?_
      first | with_reducible refine nd_icmp_geN hC (tgt := 259) (by omega) (by omega) dJ25_mergeParts_240 (by decide) (fun hq => ?_) (fun hq => ?_) | refine nd_icmp_ge hC (tgt := 259) dJ25_mergeParts_240 (by decide) (fun hq => ?_) (fun hq => ?_)
      · refine nd_aload_n hC dJ25_mergeParts_259 rfl rfl ?_
        refine nd_aload hC dJ25_mergeParts_260 rfl rfl ?_
        refine nd_acmp_neR hC (tgt := 271) dJ25_mergeParts_262 (by decide) (fun hq2 => ?_) (fun hq2 => ?_)
        · exact L3 (e - (c + j)) j g1 (by omega) H
        · rcases h2 with ⟨e1, e2, e3⟩ | ⟨e1, e2, e3, e4⟩
          · exact absurd (hq2.trans e1) hne
          · refine nd_iload_n hC dJ25_mergeParts_265 rfl ?_
            refine nd_iload hC dJ25_mergeParts_266 rfl ?_
            first | with_reducible refine nd_icmp_geN hC (tgt := 295) (by omega) (by omega) dJ25_mergeParts_268 (by decide) (fun hq3 => ?_) (fun hq3 => ?_) | refine nd_icmp_ge hC (tgt := 295) dJ25_mergeParts_268 (by decide) (fun hq3 => ?_) (fun hq3 => ?_)
            · subst e2
              refine nd_return hC rfl (by omega) (by omega) dJ25_mergeParts_295 ((hk g1 (mg.rest hu hw e4 hab hce (e - (c + j)) j (by omega) H)))
            · omega
      · omega
    | succ t ih =>
      intro i j g1 hi hj hor H
      refine nd_iload hC dJ25_mergeParts_236 rfl ?_
      refine nd_iload hC dJ25_mergeParts_238 rfl ?_
      first | with_reducible refine nd_icmp_geN hC (tgt := 259) (by omega) (by omega) dJ25_mergeParts_240 (by decide) (fun hq => ?_) (fun hq => ?_) | refine nd_icmp_ge hC (tgt := 259) dJ25_mergeParts_240 (by decide) (fun hq => ?_) (fun hq => ?_)
      · omega
      refine nd_aload_n hC dJ25_mergeParts_243 rfl rfl ?_
      refine nd_iload_n hC dJ25_mergeParts_244 rfl ?_
      first | with_reducible refine nd_iincN hC dJ25_mergeParts_245 rfl (Nat.le_of_ble_eq_true rfl) ?_ | refine nd_iinc hC dJ25_mergeParts_245 rfl rfl (Nat.le_of_ble_eq_true rfl) ?_
      refine nd_aload_n hC dJ25_mergeParts_248 rfl rfl ?_
      refine nd_iload hC dJ25_mergeParts_249 rfl ?_
      first | with_reducible refine nd_iincN hC dJ25_mergeParts_251 rfl (Nat.le_of_ble_eq_true rfl) ?_ | refine nd_iinc hC dJ25_mergeParts_251 rfl rfl (Nat.le_of_ble_eq_true rfl) ?_
      refine nd_laloadN hC (so_hh.s hS) (by omega) (by omega) dJ25_mergeParts_254 ?_
      refine so_hst hC hD hne hnD (by omega) dJ25_mergeParts_255 ?_
      refine nd_goto hC (tgt := 236) dJ25_mergeParts_256 (by decide) ?_
      rw [show k0 + i + j + 1 = k0 + (i + 1) + j by omega]
      exact ih (i + 1) j _ (by omega) hj (Or.inr (by omega)) (H.one hu hw (by omega) (fun z => by omega))
  have L1 : ∀ t i j g1, a + i ≤ b → c + j ≤ e → (b - (a + i)) + (e - (c + j)) ≤ t → mg k0 a b u c e w g0 i j g1 → nd_W g mJ25_mergeParts d 0 0 K X 171 [some .null, some (.ref D), some (.int (nI (k0 + i + j))), some (.ref S), some (.int (nI (a + i))), some (.int (nI b)), some (.ref a2), some (.int (nI (c + j))), some (.int (nI e)), none, none, none, none, none, none] [] (so_hh h D nD g1 S nS u) 0 0 := by
    have J : ∀ i j g1, a + i ≤ b → c + j ≤ e → (a + i = b ∨ c + j = e) → mg k0 a b u c e w g0 i j g1 → nd_W g mJ25_mergeParts d 0 0 K X 225 [some .null, some (.ref D), some (.int (nI (k0 + i + j))), some (.ref S), some (.int (nI (a + i))), some (.int (nI b)), some (.ref a2), some (.int (nI (c + j))), some (.int (nI e)), none, none, none, none, none, none] [] (so_hh h D nD g1 S nS u) 0 0 := by
      intro i j g1 hi hj hor H
      refine nd_aload_n hC dJ25_mergeParts_225 rfl rfl ?_
      refine nd_aload_n hC dJ25_mergeParts_226 rfl rfl ?_
      refine nd_acmp_neR hC (tgt := 236) dJ25_mergeParts_227 (by decide) (fun hq2 => ?_) (fun hq2 => absurd hq2 hne)
      exact L2 (b - (a + i)) i j g1 (by omega) hj hor H
    intro t
    induction t with
    | zero =>
      intro i j g1 hi hj ht H
      refine nd_iload hC dJ25_mergeParts_171 rfl ?_
      refine nd_iload hC dJ25_mergeParts_173 rfl ?_
      first | with_reducible refine nd_icmp_geN hC (tgt := 225) (by omega) (by omega) dJ25_mergeParts_175 (by decide) (fun hq => ?_) (fun hq => ?_) | refine nd_icmp_ge hC (tgt := 225) dJ25_mergeParts_175 (by decide) (fun hq => ?_) (fun hq => ?_)
      · exact J i j g1 hi hj (Or.inl (by omega)) H
      · omega
    | succ t ih =>
      intro i j g1 hi hj ht H
      refine nd_iload hC dJ25_mergeParts_171 rfl ?_
      refine nd_iload hC dJ25_mergeParts_173 rfl ?_
      first | with_reducible refine nd_icmp_geN hC (tgt := 225) (by omega) (by omega) dJ25_mergeParts_175 (by decide) (fun hq => ?_) (fun hq => ?_) | refine nd_icmp_ge hC (tgt := 225) dJ25_mergeParts_175 (by decide) (fun hq => ?_) (fun hq => ?_)
      · exact J i j g1 hi hj (Or.inl (by omega)) H
      refine nd_iload hC dJ25_mergeParts_178 rfl ?_
      refine nd_iload hC dJ25_mergeParts_180 rfl ?_
      first | with_reducible refine nd_icmp_geN hC (tgt := 225) (by omega) (by omega) dJ25_mergeParts_182 (by decide) (fun hq2 => ?_) (fun hq2 => ?_) | refine nd_icmp_ge hC (tgt := 225) dJ25_mergeParts_182 (by decide) (fun hq2 => ?_) (fun hq2 => ?_)
      · exact J i j g1 hi hj (Or.inr (by omega)) H
      obtain ⟨n2, w2, r1, r2, r3, r4⟩ := rd i j g1 (by omega) (by omega) H
      refine nd_aload_n hC dJ25_mergeParts_185 rfl rfl ?_
      refine nd_iload_n hC dJ25_mergeParts_186 rfl ?_
      first | with_reducible refine nd_iincN hC dJ25_mergeParts_187 rfl (Nat.le_of_ble_eq_true rfl) ?_ | refine nd_iinc hC dJ25_mergeParts_187 rfl rfl (Nat.le_of_ble_eq_true rfl) ?_
      refine nd_aload_n hC dJ25_mergeParts_190 rfl rfl ?_
      refine nd_iload hC dJ25_mergeParts_191 rfl ?_
      refine nd_laloadN hC (so_hh.s hS) (by omega) (by omega) dJ25_mergeParts_193 ?_
      refine nd_aload hC dJ25_mergeParts_194 rfl rfl ?_
      refine nd_iload hC dJ25_mergeParts_196 rfl ?_
      refine nd_laloadN hC r1 r2 (by omega) dJ25_mergeParts_198 ?_
      rw [r4]
      refine nd_lcmp_ge hC (tgt := 213) dJ25_mergeParts_199 dJ25_mergeParts_200 (by decide) (fun hq3 => ?_) (fun hq3 => ?_)
      · rw [Int64.le_iff_toInt_le] at hq3
        refine nd_aload hC dJ25_mergeParts_213 rfl rfl ?_
        refine nd_iload hC dJ25_mergeParts_215 rfl ?_
        first | with_reducible refine nd_iincN hC dJ25_mergeParts_217 rfl (Nat.le_of_ble_eq_true rfl) ?_ | refine nd_iinc hC dJ25_mergeParts_217 rfl rfl (Nat.le_of_ble_eq_true rfl) ?_
        refine nd_laloadN hC r1 r2 (by omega) dJ25_mergeParts_220 ?_
        rw [r4]
        refine so_hst hC hD hne hnD (by omega) dJ25_mergeParts_221 ?_
        refine nd_goto hC (tgt := 171) dJ25_mergeParts_222 (by decide) ?_
        exact ih i (j + 1) _ hi (by omega) (by omega) (H.two hu hw (by omega) (fun _ => hq3))
      · rw [Int64.le_iff_toInt_le] at hq3
        refine nd_aload_n hC dJ25_mergeParts_203 rfl rfl ?_
        refine nd_iload hC dJ25_mergeParts_204 rfl ?_
        first | with_reducible refine nd_iincN hC dJ25_mergeParts_206 rfl (Nat.le_of_ble_eq_true rfl) ?_ | refine nd_iinc hC dJ25_mergeParts_206 rfl rfl (Nat.le_of_ble_eq_true rfl) ?_
        refine nd_laloadN hC (so_hh.s hS) (by omega) (by omega) dJ25_mergeParts_209 ?_
        refine nd_goto hC (tgt := 221) dJ25_mergeParts_210 (by decide) ?_
        refine so_hst hC hD hne hnD (by omega) dJ25_mergeParts_221 ?_
        refine nd_goto hC (tgt := 171) dJ25_mergeParts_222 (by decide) ?_
        rw [show k0 + i + j + 1 = k0 + (i + 1) + j by omega]
        exact ih (i + 1) j _ (by omega) hj (by omega) (H.one hu hw (by omega) (fun _ => by omega))
  exact L1 _ 0 0 g0 (by omega) (by omega) (Nat.le_refl _) mg.zero
end SO9903


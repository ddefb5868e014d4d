set_option maxRecDepth 100000
/-! ===== merging runs ===== -/
def so_v (lo hi : Nat) (f f2 : Nat → Int64) : Prop := (∀ i, lo ≤ i → i < hi → ∃ j, lo ≤ j ∧ j < hi ∧ f2 i = f j) ∧ ∀ j, lo ≤ j → j < hi → ∃ i, lo ≤ i ∧ i < hi ∧ f2 i = f j
theorem so_v.rfl {lo hi : Nat} {f : Nat → Int64} : so_v lo hi f f := ⟨fun i a b => ⟨i, a, b, Eq.refl _⟩, fun i a b => ⟨i, a, b, Eq.refl _⟩⟩
theorem so_v.left {lo hi : Nat} {f f1 f2 : Nat → Int64} (H : so_v lo hi f f2) (e : ∀ i, lo ≤ i → i < hi → f1 i = f i) : so_v lo hi f1 f2 := by
  refine ⟨fun i a b => ?_, fun j a b => ?_⟩
  · obtain ⟨j, q1, q2, q3⟩ := H.1 i a b
    exact ⟨j, q1, q2, q3.trans (e j q1 q2).symm⟩
  · obtain ⟨i, q1, q2, q3⟩ := H.2 j a b
    exact ⟨i, q1, q2, q3.trans (e j a b).symm⟩
theorem so_v.right {lo hi : Nat} {f f1 f2 : Nat → Int64} (H : so_v lo hi f f2) (e : ∀ i, lo ≤ i → i < hi → f1 i = f2 i) : so_v lo hi f f1 := by
  refine ⟨fun i a b => ?_, fun j a b => ?_⟩
  · obtain ⟨j, q1, q2, q3⟩ := H.1 i a b
    exact ⟨j, q1, q2, (e i a b).trans q3⟩
  · obtain ⟨i, q1, q2, q3⟩ := H.2 j a b
    exact ⟨i, q1, q2, (e i q1 q2).trans q3⟩
theorem so_s.congr {lo hi : Nat} {f f1 : Nat → Int64} (H : so_s lo hi f) (e : ∀ i, lo ≤ i → i < hi → f1 i = f i) : so_s lo hi f1 := by
  intro i j a b c
  rw [e i a (by omega), e j (by omega) c]
  exact H i j a b c
theorem so_s.shift {lo hi a b o : Nat} {u : Nat → Int64} (H : so_s lo hi (fun i => u (i - o))) (ha : a + o = lo) (hb : b + o = hi) : so_s a b u := by
  intro i j q1 q2 q3
  have M := H (i + o) (j + o) (by omega) (by omega) (by omega)
  simp only [Nat.add_sub_cancel] at M
  exact M
theorem mr_join {k0 a b c e o1 o2 o3 p m q : Nat} {u w g0 g1 f : Nat → Int64} (H : mg k0 a b u c e w g0 (b - a) (e - c) g1) (ha : a + o1 = p) (hb : b + o1 = m) (hc : c + o2 = m) (he : e + o2 = q) (hk : k0 + o3 = p) (h1 : p ≤ m) (h2 : m ≤ q) (hL : so_v p m f (fun i => u (i - o1))) (hR : so_v m q f (fun i => w (i - o2))) : so_v p q f (fun i => g1 (i - o3)) ∧ so_s p q (fun i => g1 (i - o3)) ∧ ∀ i, ¬ (p - o3 ≤ i ∧ i < q - o3) → g1 i = g0 i := by
  refine ⟨⟨fun i q1 q2 => ?_, fun j q1 q2 => ?_⟩, fun i j q1 q2 q3 => ?_, fun i hi => ?_⟩
  · rcases (H.2.2.1 (i - o3) (by omega) (by omega)).2.2 with ⟨x, r1, r2, r3⟩ | ⟨x, r1, r2, r3⟩
    · obtain ⟨j, s1, s2, s3⟩ := hL.1 (x + o1) (by omega) (by omega)
      simp only [Nat.add_sub_cancel] at s3
      exact ⟨j, s1, by omega, r3.trans s3⟩
    · obtain ⟨j, s1, s2, s3⟩ := hR.1 (x + o2) (by omega) (by omega)
      simp only [Nat.add_sub_cancel] at s3
      exact ⟨j, by omega, s2, r3.trans s3⟩
  · by_cases z : j < m
    · obtain ⟨i, s1, s2, s3⟩ := hL.2 j q1 z
      obtain ⟨x, r1, r2, r3⟩ := H.2.2.2.1 (i - o1) (by omega) (by omega)
      exact ⟨x + o3, by omega, by omega, by simp only [Nat.add_sub_cancel]; exact r3.trans s3⟩
    · obtain ⟨i, s1, s2, s3⟩ := hR.2 j (by omega) q2
      obtain ⟨x, r1, r2, r3⟩ := H.2.2.2.2 (i - o2) (by omega) (by omega)
      exact ⟨x + o3, by omega, by omega, by simp only [Nat.add_sub_cancel]; exact r3.trans s3⟩
  · exact H.2.1 (i - o3) (j - o3) (by omega) (by omega) (by omega)
  · exact H.1 i (by omega)
def mr_r (A B off p q : Nat) (f fb f2 fb2 : Nat → Int64) (Y : Nat) : Prop := (∀ i, ¬ (p ≤ i ∧ i < q) → f2 i = f i) ∧ (∀ i, ¬ (p - off ≤ i ∧ i < q - off) → fb2 i = fb i) ∧ ((Y = A ∧ so_v p q f f2 ∧ so_s p q f2) ∨ (Y = B ∧ so_v p q f (fun i => fb2 (i - off)) ∧ so_s p q (fun i => fb2 (i - off))))
section SO9904
variable {g : nd_G} {mm : nd_Mt} {d mc ms : Nat} {K : nd_K} {X : nd_X} {pc : Nat} {lv : List (Option Value)} {st : List Value} {h : nd_H} {cs ss : Nat}
theorem nd_lv {lv2 : List (Option Value)} (e : lv2 = lv) (k : nd_W g mm d mc ms K X pc lv2 st h cs ss) : nd_W g mm d mc ms K X pc lv st h cs ss := e ▸ k
theorem nd_acmp_neT (hC : nd_Cx g mm X) {a b : Nat} {off : Int} {tgt : Nat} (hab : a ≠ b) (hd : decode mm.2.1 pc = .ok (.if_acmp .ne off, 3)) (ht : (pc : Int) + off = (tgt : Int)) (kt : nd_W g mm d mc ms K X tgt lv st h cs ss) : nd_W g mm d mc ms K X pc lv (.ref b :: .ref a :: st) h cs ss := nd_acmp_neR hC hd ht (fun _ => kt) (fun z => absurd z hab)
theorem nd_acmp_neF (hC : nd_Cx g mm X) {a : Nat} {off : Int} {tgt : Nat} (hd : decode mm.2.1 pc = .ok (.if_acmp .ne off, 3)) (ht : (pc : Int) + off = (tgt : Int)) (kf : nd_W g mm d mc ms K X (pc + 3) lv st h cs ss) : nd_W g mm d mc ms K X pc lv (.ref a :: .ref a :: st) h cs ss := nd_acmp_neR hC hd ht (fun z => absurd rfl z) (fun _ => kf)
theorem r_mono {r : Nat → Nat} {cnt : Nat} (hr : ∀ i, i < cnt → r i < r (i + 1)) : ∀ k i, i + k ≤ cnt → r i + k ≤ r (i + k) := by
  intro k
  induction k with
  | zero => intro i _; exact Nat.le_refl _
  | succ k ih =>
    intro i hi
    have h1 := ih i (by omega)
    have h2 := hr (i + k) (by omega)
    rw [show i + (k + 1) = i + k + 1 from rfl]
    omega
theorem so_mrAA (hg : nd_OK g) (hC : nd_Cx g mJ25_mergeRuns X) {A n B mB R rl off lo mi hi p m q : Nat} {am : Int32} {l9 : Option Value} {rf : Nat → Int32} {f fb f1 fb1 f2 fb2 : Nat → Int64} (hd : 1 ≤ d) (hA : A < h.length) (hB : B < h.length) (hne : A ≠ B) (hR2 : ∀ f2 fb2, (so_hh h A n f2 B mB fb2)[R]? = some (.inl (0, rl, .inl rf))) (hr1 : lo < rl) (hr2 : mi < rl) (hr3 : hi < rl) (hrl2 : rl ≤ 100000) (E1 : rf lo = nI p) (E2 : rf mi = nI m) (E3 : rf hi = nI q) (ho : off ≤ p) (hlm : p ≤ m) (hmh : m ≤ q) (hqn : q ≤ n) (hqm : q - off ≤ mB) (hn : n ≤ 100000) (hmB : mB ≤ 100000) (p1 : ∀ i, ¬ (p ≤ i ∧ i < m) → f1 i = f i) (p2 : ∀ i, ¬ (p - off ≤ i ∧ i < m - off) → fb1 i = fb i) (pv : so_v p m f f1) (ps : so_s p m f1) (s1 : ∀ i, ¬ (m ≤ i ∧ i < q) → f2 i = f1 i) (s2 : ∀ i, ¬ (m - off ≤ i ∧ i < q - off) → fb2 i = fb1 i) (sv : so_v m q f1 f2) (ss2 : so_s m q f2) (kk : ∀ f3 fb3, mr_r A B off p q f fb f3 fb3 B → K (.inl (some (.ref B))) (so_hh h A n f3 B mB fb3)) : nd_W g mJ25_mergeRuns d 0 0 K X 197 [some (.ref A), some (.ref B), some (.int (nI off)), some (.int am), some (.int (nI 0)), some (.ref R), some (.int (nI lo)), some (.int (nI hi)), some (.int (nI mi)), l9, some (.ref A), some (.ref A), none, none, none, none, none, none] [] (so_hh h A n f2 B mB fb2) 0 0 := by
  refine nd_aload hC dJ25_mergeRuns_197 rfl rfl ?_
  refine nd_aload_n hC dJ25_mergeRuns_199 rfl rfl ?_
  refine nd_acmp_neF hC (tgt := 207) dJ25_mergeRuns_200 (by decide) ?_
  refine nd_aload_n hC dJ25_mergeRuns_203 rfl rfl ?_
  refine nd_goto hC (tgt := 208) dJ25_mergeRuns_204 (by decide) ?_
  refine nd_astore hC dJ25_mergeRuns_208 (Nat.le_of_ble_eq_true rfl) rfl ?_
  refine nd_aload hC dJ25_mergeRuns_210 rfl rfl ?_
  refine nd_aload_n hC dJ25_mergeRuns_212 rfl rfl ?_
  refine nd_acmp_neF hC (tgt := 226) dJ25_mergeRuns_213 (by decide) ?_
  refine nd_aload hC dJ25_mergeRuns_216 rfl rfl ?_
  refine nd_iload hC dJ25_mergeRuns_218 rfl ?_
  refine nd_ialoadN hC (hR2 _ _) (by omega) (by omega) dJ25_mergeRuns_220 ?_
  refine nd_v_eq (congrArg Value.int (E1)) ?_
  refine nd_iload_n hC dJ25_mergeRuns_221 rfl ?_
  first | with_reducible refine nd_isubN hC (by omega) dJ25_mergeRuns_222 ?_ | refine nd_isub hC dJ25_mergeRuns_222 ?_
  refine nd_goto hC (tgt := 231) dJ25_mergeRuns_223 (by decide) ?_
  refine nd_istore hC dJ25_mergeRuns_231 (Nat.le_of_ble_eq_true rfl) ?_
  refine nd_lv (lv2 := [some (.ref A), some (.ref B), some (.int (nI off)), some (.int am), some (.int (nI 0)), some (.ref R), some (.int (nI lo)), some (.int (nI hi)), some (.int (nI mi)), l9, some (.ref A), some (.ref A), some (.ref B), some (.int (nI (p - off))), none, none, none, none]) rfl ?_
  refine nd_aload hC dJ25_mergeRuns_233 rfl rfl ?_
  refine nd_aload_n hC dJ25_mergeRuns_235 rfl rfl ?_
  refine nd_acmp_neT hC (tgt := 249) (hne) dJ25_mergeRuns_236 (by decide) ?_
  refine nd_aload hC dJ25_mergeRuns_249 rfl rfl ?_
  refine nd_iload hC dJ25_mergeRuns_251 rfl ?_
  refine nd_ialoadN hC (hR2 _ _) (by omega) (by omega) dJ25_mergeRuns_253 ?_
  refine nd_v_eq (congrArg Value.int (E1)) ?_
  refine nd_istore hC dJ25_mergeRuns_254 (Nat.le_of_ble_eq_true rfl) ?_
  refine nd_aload hC dJ25_mergeRuns_256 rfl rfl ?_
  refine nd_aload_n hC dJ25_mergeRuns_258 rfl rfl ?_
  refine nd_acmp_neT hC (tgt := 272) (hne) dJ25_mergeRuns_259 (by decide) ?_
  refine nd_aload hC dJ25_mergeRuns_272 rfl rfl ?_
  refine nd_iload hC dJ25_mergeRuns_274 rfl ?_
  refine nd_ialoadN hC (hR2 _ _) (by omega) (by omega) dJ25_mergeRuns_276 ?_
  refine nd_v_eq (congrArg Value.int (E2)) ?_
  refine nd_istore hC dJ25_mergeRuns_277 (Nat.le_of_ble_eq_true rfl) ?_
  refine nd_lv (lv2 := [some (.ref A), some (.ref B), some (.int (nI off)), some (.int am), some (.int (nI 0)), some (.ref R), some (.int (nI lo)), some (.int (nI hi)), some (.int (nI mi)), l9, some (.ref A), some (.ref A), some (.ref B), some (.int (nI (p - off))), some (.int (nI p)), some (.int (nI m)), none, none]) rfl ?_
  refine nd_aload hC dJ25_mergeRuns_279 rfl rfl ?_
  refine nd_aload_n hC dJ25_mergeRuns_281 rfl rfl ?_
  refine nd_acmp_neT hC (tgt := 295) (hne) dJ25_mergeRuns_282 (by decide) ?_
  refine nd_aload hC dJ25_mergeRuns_295 rfl rfl ?_
  refine nd_iload hC dJ25_mergeRuns_297 rfl ?_
  refine nd_ialoadN hC (hR2 _ _) (by omega) (by omega) dJ25_mergeRuns_299 ?_
  refine nd_v_eq (congrArg Value.int (E2)) ?_
  refine nd_istore hC dJ25_mergeRuns_300 (Nat.le_of_ble_eq_true rfl) ?_
  refine nd_aload hC dJ25_mergeRuns_302 rfl rfl ?_
  refine nd_aload_n hC dJ25_mergeRuns_304 rfl rfl ?_
  refine nd_acmp_neT hC (tgt := 318) (hne) dJ25_mergeRuns_305 (by decide) ?_
  refine nd_aload hC dJ25_mergeRuns_318 rfl rfl ?_
  refine nd_iload hC dJ25_mergeRuns_320 rfl ?_
  refine nd_ialoadN hC (hR2 _ _) (by omega) (by omega) dJ25_mergeRuns_322 ?_
  refine nd_v_eq (congrArg Value.int (E3)) ?_
  refine nd_istore hC dJ25_mergeRuns_323 (Nat.le_of_ble_eq_true rfl) ?_
  refine nd_lv (lv2 := [some (.ref A), some (.ref B), some (.int (nI off)), some (.int am), some (.int (nI 0)), some (.ref R), some (.int (nI lo)), some (.int (nI hi)), some (.int (nI mi)), l9, some (.ref A), some (.ref A), some (.ref B), some (.int (nI (p - off))), some (.int (nI p)), some (.int (nI m)), some (.int (nI m)), some (.int (nI q))]) rfl ?_
  refine nd_iload hC dJ25_mergeRuns_325 rfl ?_
  first | with_reducible refine nd_if_eqB hC (tgt := 361) dJ25_mergeRuns_327 (by decide) (fun hq5 => ?_) (fun hq5 => ?_) | with_reducible refine nd_if_eqN hC (tgt := 361) (by omega) dJ25_mergeRuns_327 (by decide) (fun hq5 => ?_) (fun hq5 => ?_) | refine nd_if_eq hC (tgt := 361) dJ25_mergeRuns_327 (by decide) (fun hq5 => ?_) (fun hq5 => ?_)
  · skip
    refine nd_null hC dJ25_mergeRuns_361 ?_
    refine nd_aload hC dJ25_mergeRuns_362 rfl rfl ?_
    refine nd_iload hC dJ25_mergeRuns_364 rfl ?_
    refine nd_aload hC dJ25_mergeRuns_366 rfl rfl ?_
    refine nd_iload hC dJ25_mergeRuns_368 rfl ?_
    refine nd_iload hC dJ25_mergeRuns_370 rfl ?_
    refine nd_aload hC dJ25_mergeRuns_372 rfl rfl ?_
    refine nd_iload hC dJ25_mergeRuns_374 rfl ?_
    refine nd_iload hC dJ25_mergeRuns_376 rfl ?_
    rw [so_hh.comm hne]
    have eL : ∀ i, p ≤ i → i < m → f2 i = f1 i := fun i a b => s1 i (by omega)
    have vL : so_v (p) (m) f (fun i => f2 (i - 0)) := pv.right eL
    have sL : so_s (p) (m) (fun i => f2 (i - 0)) := ps.congr eL
    have vR : so_v (m) (q) f (fun i => f2 (i - 0)) := sv.left (fun i a b => (p1 i (by omega)).symm)
    have sR : so_s (m) (q) (fun i => f2 (i - 0)) := ss2
    refine nd_callS (mm2 := mJ25_mergeParts) (As := [_, _, _, _, _, _, _, _, _]) (mc2 := 0) (ms2 := 0) (d2 := d - 1) hC rfl lkJ25_121 lmJ25_mergeParts (Nat.le_of_ble_eq_true rfl) (by omega) rfl (by exact Nat.le_of_ble_eq_true rfl) (by omega) (by omega) dJ25_mergeRuns_378 rfl ((so_mparts hg (k0 := (p - off)) (a := (p)) (b := (m)) (c := (m)) (e := (q)) (u := f2) (w := f2) (g0 := fb2) hB hA (hne.symm) hmB hn (by omega) (by omega) (by omega) (by omega) (Or.inl ⟨rfl, rfl, by omega⟩) (sL.shift (o := 0) (by omega) (by omega)) (sR.shift (o := 0) (by omega) (by omega)) (fun g1 Hm => ?_)))
    have MJ := mr_join (o1 := 0) (o2 := 0) (o3 := off) (p := p) (m := m) (q := q) Hm (by omega) (by omega) (by omega) (by omega) (by omega) hlm hmh vL vR
    obtain ⟨m1, m2, m3⟩ := MJ
    rw [so_hh.comm hne.symm]
    have RR := kk f2 g1 ⟨fun i z => (s1 i (by omega)).trans (p1 i (by omega)), fun i z => (m3 i z).trans ((s2 i (by omega)).trans (p2 i (by omega))), Or.inr ⟨rfl, m1, m2⟩⟩ 
    refine nd_aload hC dJ25_mergeRuns_381 rfl rfl ?_
    refine nd_areturn hC rfl (by first | exact Or.inl ⟨_, rfl⟩ | exact Or.inr ⟨_, rfl⟩) (by rfl) (by omega) (by omega) dJ25_mergeRuns_383 (RR)
  · omega
theorem so_mrAB (hg : nd_OK g) (hC : nd_Cx g mJ25_mergeRuns X) {A n B mB R rl off lo mi hi p m q : Nat} {am : Int32} {l9 : Option Value} {rf : Nat → Int32} {f fb f1 fb1 f2 fb2 : Nat → Int64} (hd : 1 ≤ d) (hA : A < h.length) (hB : B < h.length) (hne : A ≠ B) (hR2 : ∀ f2 fb2, (so_hh h A n f2 B mB fb2)[R]? = some (.inl (0, rl, .inl rf))) (hr1 : lo < rl) (hr2 : mi < rl) (hr3 : hi < rl) (hrl2 : rl ≤ 100000) (E1 : rf lo = nI p) (E2 : rf mi = nI m) (E3 : rf hi = nI q) (ho : off ≤ p) (hlm : p ≤ m) (hmh : m ≤ q) (hqn : q ≤ n) (hqm : q - off ≤ mB) (hn : n ≤ 100000) (hmB : mB ≤ 100000) (p1 : ∀ i, ¬ (p ≤ i ∧ i < m) → f1 i = f i) (p2 : ∀ i, ¬ (p - off ≤ i ∧ i < m - off) → fb1 i = fb i) (pv : so_v p m f f1) (ps : so_s p m f1) (s1 : ∀ i, ¬ (m ≤ i ∧ i < q) → f2 i = f1 i) (s2 : ∀ i, ¬ (m - off ≤ i ∧ i < q - off) → fb2 i = fb1 i) (sv : so_v m q f1 (fun i => fb2 (i - off))) (ss2 : so_s m q (fun i => fb2 (i - off))) (kk : ∀ f3 fb3, mr_r A B off p q f fb f3 fb3 B → K (.inl (some (.ref B))) (so_hh h A n f3 B mB fb3)) : nd_W g mJ25_mergeRuns d 0 0 K X 197 [some (.ref A), some (.ref B), some (.int (nI off)), some (.int am), some (.int (nI 0)), some (.ref R), some (.int (nI lo)), some (.int (nI hi)), some (.int (nI mi)), l9, some (.ref A), some (.ref B), none, none, none, none, none, none] [] (so_hh h A n f2 B mB fb2) 0 0 := by
  refine nd_aload hC dJ25_mergeRuns_197 rfl rfl ?_
  refine nd_aload_n hC dJ25_mergeRuns_199 rfl rfl ?_
  refine nd_acmp_neF hC (tgt := 207) dJ25_mergeRuns_200 (by decide) ?_
  refine nd_aload_n hC dJ25_mergeRuns_203 rfl rfl ?_
  refine nd_goto hC (tgt := 208) dJ25_mergeRuns_204 (by decide) ?_
  refine nd_astore hC dJ25_mergeRuns_208 (Nat.le_of_ble_eq_true rfl) rfl ?_
  refine nd_aload hC dJ25_mergeRuns_210 rfl rfl ?_
  refine nd_aload_n hC dJ25_mergeRuns_212 rfl rfl ?_
  refine nd_acmp_neF hC (tgt := 226) dJ25_mergeRuns_213 (by decide) ?_
  refine nd_aload hC dJ25_mergeRuns_216 rfl rfl ?_
  refine nd_iload hC dJ25_mergeRuns_218 rfl ?_
  refine nd_ialoadN hC (hR2 _ _) (by omega) (by omega) dJ25_mergeRuns_220 ?_
  refine nd_v_eq (congrArg Value.int (E1)) ?_
  refine nd_iload_n hC dJ25_mergeRuns_221 rfl ?_
  first | with_reducible refine nd_isubN hC (by omega) dJ25_mergeRuns_222 ?_ | refine nd_isub hC dJ25_mergeRuns_222 ?_
  refine nd_goto hC (tgt := 231) dJ25_mergeRuns_223 (by decide) ?_
  refine nd_istore hC dJ25_mergeRuns_231 (Nat.le_of_ble_eq_true rfl) ?_
  refine nd_lv (lv2 := [some (.ref A), some (.ref B), some (.int (nI off)), some (.int am), some (.int (nI 0)), some (.ref R), some (.int (nI lo)), some (.int (nI hi)), some (.int (nI mi)), l9, some (.ref A), some (.ref B), some (.ref B), some (.int (nI (p - off))), none, none, none, none]) rfl ?_
  refine nd_aload hC dJ25_mergeRuns_233 rfl rfl ?_
  refine nd_aload_n hC dJ25_mergeRuns_235 rfl rfl ?_
  refine nd_acmp_neT hC (tgt := 249) (hne) dJ25_mergeRuns_236 (by decide) ?_
  refine nd_aload hC dJ25_mergeRuns_249 rfl rfl ?_
  refine nd_iload hC dJ25_mergeRuns_251 rfl ?_
  refine nd_ialoadN hC (hR2 _ _) (by omega) (by omega) dJ25_mergeRuns_253 ?_
  refine nd_v_eq (congrArg Value.int (E1)) ?_
  refine nd_istore hC dJ25_mergeRuns_254 (Nat.le_of_ble_eq_true rfl) ?_
  refine nd_aload hC dJ25_mergeRuns_256 rfl rfl ?_
  refine nd_aload_n hC dJ25_mergeRuns_258 rfl rfl ?_
  refine nd_acmp_neT hC (tgt := 272) (hne) dJ25_mergeRuns_259 (by decide) ?_
  refine nd_aload hC dJ25_mergeRuns_272 rfl rfl ?_
  refine nd_iload hC dJ25_mergeRuns_274 rfl ?_
  refine nd_ialoadN hC (hR2 _ _) (by omega) (by omega) dJ25_mergeRuns_276 ?_
  refine nd_v_eq (congrArg Value.int (E2)) ?_
  refine nd_istore hC dJ25_mergeRuns_277 (Nat.le_of_ble_eq_true rfl) ?_
  refine nd_lv (lv2 := [some (.ref A), some (.ref B), some (.int (nI off)), some (.int am), some (.int (nI 0)), some (.ref R), some (.int (nI lo)), some (.int (nI hi)), some (.int (nI mi)), l9, some (.ref A), some (.ref B), some (.ref B), some (.int (nI (p - off))), some (.int (nI p)), some (.int (nI m)), none, none]) rfl ?_
  refine nd_aload hC dJ25_mergeRuns_279 rfl rfl ?_
  refine nd_aload_n hC dJ25_mergeRuns_281 rfl rfl ?_
  refine nd_acmp_neF hC (tgt := 295) dJ25_mergeRuns_282 (by decide) ?_
  refine nd_aload hC dJ25_mergeRuns_285 rfl rfl ?_
  refine nd_iload hC dJ25_mergeRuns_287 rfl ?_
  refine nd_ialoadN hC (hR2 _ _) (by omega) (by omega) dJ25_mergeRuns_289 ?_
  refine nd_v_eq (congrArg Value.int (E2)) ?_
  refine nd_iload_n hC dJ25_mergeRuns_290 rfl ?_
  first | with_reducible refine nd_isubN hC (by omega) dJ25_mergeRuns_291 ?_ | refine nd_isub hC dJ25_mergeRuns_291 ?_
  refine nd_goto hC (tgt := 300) dJ25_mergeRuns_292 (by decide) ?_
  refine nd_istore hC dJ25_mergeRuns_300 (Nat.le_of_ble_eq_true rfl) ?_
  refine nd_aload hC dJ25_mergeRuns_302 rfl rfl ?_
  refine nd_aload_n hC dJ25_mergeRuns_304 rfl rfl ?_
  refine nd_acmp_neF hC (tgt := 318) dJ25_mergeRuns_305 (by decide) ?_
  refine nd_aload hC dJ25_mergeRuns_308 rfl rfl ?_
  refine nd_iload hC dJ25_mergeRuns_310 rfl ?_
  refine nd_ialoadN hC (hR2 _ _) (by omega) (by omega) dJ25_mergeRuns_312 ?_
  refine nd_v_eq (congrArg Value.int (E3)) ?_
  refine nd_iload_n hC dJ25_mergeRuns_313 rfl ?_
  first | with_reducible refine nd_isubN hC (by omega) dJ25_mergeRuns_314 ?_ | refine nd_isub hC dJ25_mergeRuns_314 ?_
  refine nd_goto hC (tgt := 323) dJ25_mergeRuns_315 (by decide) ?_
  refine nd_istore hC dJ25_mergeRuns_323 (Nat.le_of_ble_eq_true rfl) ?_
  refine nd_lv (lv2 := [some (.ref A), some (.ref B), some (.int (nI off)), some (.int am), some (.int (nI 0)), some (.ref R), some (.int (nI lo)), some (.int (nI hi)), some (.int (nI mi)), l9, some (.ref A), some (.ref B), some (.ref B), some (.int (nI (p - off))), some (.int (nI p)), some (.int (nI m)), some (.int (nI (m - off))), some (.int (nI (q - off)))]) rfl ?_
  refine nd_iload hC dJ25_mergeRuns_325 rfl ?_
  first | with_reducible refine nd_if_eqB hC (tgt := 361) dJ25_mergeRuns_327 (by decide) (fun hq5 => ?_) (fun hq5 => ?_) | with_reducible refine nd_if_eqN hC (tgt := 361) (by omega) dJ25_mergeRuns_327 (by decide) (fun hq5 => ?_) (fun hq5 => ?_) | refine nd_if_eq hC (tgt := 361) dJ25_mergeRuns_327 (by decide) (fun hq5 => ?_) (fun hq5 => ?_)
  · skip
    refine nd_null hC dJ25_mergeRuns_361 ?_
    refine nd_aload hC dJ25_mergeRuns_362 rfl rfl ?_
    refine nd_iload hC dJ25_mergeRuns_364 rfl ?_
    refine nd_aload hC dJ25_mergeRuns_366 rfl rfl ?_
    refine nd_iload hC dJ25_mergeRuns_368 rfl ?_
    refine nd_iload hC dJ25_mergeRuns_370 rfl ?_
    refine nd_aload hC dJ25_mergeRuns_372 rfl rfl ?_
    refine nd_iload hC dJ25_mergeRuns_374 rfl ?_
    refine nd_iload hC dJ25_mergeRuns_376 rfl ?_
    rw [so_hh.comm hne]
    have eL : ∀ i, p ≤ i → i < m → f2 i = f1 i := fun i a b => s1 i (by omega)
    have vL : so_v (p) (m) f (fun i => f2 (i - 0)) := pv.right eL
    have sL : so_s (p) (m) (fun i => f2 (i - 0)) := ps.congr eL
    have vR : so_v (m) (q) f (fun i => fb2 (i - off)) := sv.left (fun i a b => (p1 i (by omega)).symm)
    have sR : so_s (m) (q) (fun i => fb2 (i - off)) := ss2
    refine nd_callS (mm2 := mJ25_mergeParts) (As := [_, _, _, _, _, _, _, _, _]) (mc2 := 0) (ms2 := 0) (d2 := d - 1) hC rfl lkJ25_121 lmJ25_mergeParts (Nat.le_of_ble_eq_true rfl) (by omega) rfl (by exact Nat.le_of_ble_eq_true rfl) (by omega) (by omega) dJ25_mergeRuns_378 rfl ((so_mparts hg (k0 := (p - off)) (a := (p)) (b := (m)) (c := (m - off)) (e := (q - off)) (u := f2) (w := fb2) (g0 := fb2) hB hA (hne.symm) hmB hn (by omega) (by omega) (by omega) (by omega) (Or.inr ⟨rfl, rfl, by omega, by omega⟩) (sL.shift (o := 0) (by omega) (by omega)) (sR.shift (o := off) (by omega) (by omega)) (fun g1 Hm => ?_)))
    have MJ := mr_join (o1 := 0) (o2 := off) (o3 := off) (p := p) (m := m) (q := q) Hm (by omega) (by omega) (by omega) (by omega) (by omega) hlm hmh vL vR
    obtain ⟨m1, m2, m3⟩ := MJ
    rw [so_hh.comm hne.symm]
    have RR := kk f2 g1 ⟨fun i z => (s1 i (by omega)).trans (p1 i (by omega)), fun i z => (m3 i z).trans ((s2 i (by omega)).trans (p2 i (by omega))), Or.inr ⟨rfl, m1, m2⟩⟩ 
    refine nd_aload hC dJ25_mergeRuns_381 rfl rfl ?_
    refine nd_areturn hC rfl (by first | exact Or.inl ⟨_, rfl⟩ | exact Or.inr ⟨_, rfl⟩) (by rfl) (by omega) (by omega) dJ25_mergeRuns_383 (RR)
  · omega
theorem so_mrBA (hg : nd_OK g) (hC : nd_Cx g mJ25_mergeRuns X) {A n B mB R rl off lo mi hi p m q : Nat} {am : Int32} {l9 : Option Value} {rf : Nat → Int32} {f fb f1 fb1 f2 fb2 : Nat → Int64} (hd : 1 ≤ d) (hA : A < h.length) (hB : B < h.length) (hne : A ≠ B) (hR2 : ∀ f2 fb2, (so_hh h A n f2 B mB fb2)[R]? = some (.inl (0, rl, .inl rf))) (hr1 : lo < rl) (hr2 : mi < rl) (hr3 : hi < rl) (hrl2 : rl ≤ 100000) (E1 : rf lo = nI p) (E2 : rf mi = nI m) (E3 : rf hi = nI q) (ho : off ≤ p) (hlm : p ≤ m) (hmh : m ≤ q) (hqn : q ≤ n) (hqm : q - off ≤ mB) (hn : n ≤ 100000) (hmB : mB ≤ 100000) (p1 : ∀ i, ¬ (p ≤ i ∧ i < m) → f1 i = f i) (p2 : ∀ i, ¬ (p - off ≤ i ∧ i < m - off) → fb1 i = fb i) (pv : so_v p m f (fun i => fb1 (i - off))) (ps : so_s p m (fun i => fb1 (i - off))) (s1 : ∀ i, ¬ (m ≤ i ∧ i < q) → f2 i = f1 i) (s2 : ∀ i, ¬ (m - off ≤ i ∧ i < q - off) → fb2 i = fb1 i) (sv : so_v m q f1 f2) (ss2 : so_s m q f2) (kk : ∀ f3 fb3, mr_r A B off p q f fb f3 fb3 A → K (.inl (some (.ref A))) (so_hh h A n f3 B mB fb3)) : nd_W g mJ25_mergeRuns d 0 0 K X 197 [some (.ref A), some (.ref B), some (.int (nI off)), some (.int am), some (.int (nI 0)), some (.ref R), some (.int (nI lo)), some (.int (nI hi)), some (.int (nI mi)), l9, some (.ref B), some (.ref A), none, none, none, none, none, none] [] (so_hh h A n f2 B mB fb2) 0 0 := by
  refine nd_aload hC dJ25_mergeRuns_197 rfl rfl ?_
  refine nd_aload_n hC dJ25_mergeRuns_199 rfl rfl ?_
  refine nd_acmp_neT hC (tgt := 207) (hne.symm) dJ25_mergeRuns_200 (by decide) ?_
  refine nd_aload_n hC dJ25_mergeRuns_207 rfl rfl ?_
  refine nd_astore hC dJ25_mergeRuns_208 (Nat.le_of_ble_eq_true rfl) rfl ?_
  refine nd_aload hC dJ25_mergeRuns_210 rfl rfl ?_
  refine nd_aload_n hC dJ25_mergeRuns_212 rfl rfl ?_
  refine nd_acmp_neT hC (tgt := 226) (hne.symm) dJ25_mergeRuns_213 (by decide) ?_
  refine nd_aload hC dJ25_mergeRuns_226 rfl rfl ?_
  refine nd_iload hC dJ25_mergeRuns_228 rfl ?_
  refine nd_ialoadN hC (hR2 _ _) (by omega) (by omega) dJ25_mergeRuns_230 ?_
  refine nd_v_eq (congrArg Value.int (E1)) ?_
  refine nd_istore hC dJ25_mergeRuns_231 (Nat.le_of_ble_eq_true rfl) ?_
  refine nd_lv (lv2 := [some (.ref A), some (.ref B), some (.int (nI off)), some (.int am), some (.int (nI 0)), some (.ref R), some (.int (nI lo)), some (.int (nI hi)), some (.int (nI mi)), l9, some (.ref B), some (.ref A), some (.ref A), some (.int (nI p)), none, none, none, none]) rfl ?_
  refine nd_aload hC dJ25_mergeRuns_233 rfl rfl ?_
  refine nd_aload_n hC dJ25_mergeRuns_235 rfl rfl ?_
  refine nd_acmp_neF hC (tgt := 249) dJ25_mergeRuns_236 (by decide) ?_
  refine nd_aload hC dJ25_mergeRuns_239 rfl rfl ?_
  refine nd_iload hC dJ25_mergeRuns_241 rfl ?_
  refine nd_ialoadN hC (hR2 _ _) (by omega) (by omega) dJ25_mergeRuns_243 ?_
  refine nd_v_eq (congrArg Value.int (E1)) ?_
  refine nd_iload_n hC dJ25_mergeRuns_244 rfl ?_
  first | with_reducible refine nd_isubN hC (by omega) dJ25_mergeRuns_245 ?_ | refine nd_isub hC dJ25_mergeRuns_245 ?_
  refine nd_goto hC (tgt := 254) dJ25_mergeRuns_246 (by decide) ?_
  refine nd_istore hC dJ25_mergeRuns_254 (Nat.le_of_ble_eq_true rfl) ?_
  refine nd_aload hC dJ25_mergeRuns_256 rfl rfl ?_
  refine nd_aload_n hC dJ25_mergeRuns_258 rfl rfl ?_
  refine nd_acmp_neF hC (tgt := 272) dJ25_mergeRuns_259 (by decide) ?_
  refine nd_aload hC dJ25_mergeRuns_262 rfl rfl ?_
  refine nd_iload hC dJ25_mergeRuns_264 rfl ?_
  refine nd_ialoadN hC (hR2 _ _) (by omega) (by omega) dJ25_mergeRuns_266 ?_
  refine nd_v_eq (congrArg Value.int (E2)) ?_
  refine nd_iload_n hC dJ25_mergeRuns_267 rfl ?_
  first | with_reducible refine nd_isubN hC (by omega) dJ25_mergeRuns_268 ?_ | refine nd_isub hC dJ25_mergeRuns_268 ?_
  refine nd_goto hC (tgt := 277) dJ25_mergeRuns_269 (by decide) ?_
  refine nd_istore hC dJ25_mergeRuns_277 (Nat.le_of_ble_eq_true rfl) ?_
  refine nd_lv (lv2 := [some (.ref A), some (.ref B), some (.int (nI off)), some (.int am), some (.int (nI 0)), some (.ref R), some (.int (nI lo)), some (.int (nI hi)), some (.int (nI mi)), l9, some (.ref B), some (.ref A), some (.ref A), some (.int (nI p)), some (.int (nI (p - off))), some (.int (nI (m - off))), none, none]) rfl ?_
  refine nd_aload hC dJ25_mergeRuns_279 rfl rfl ?_
  refine nd_aload_n hC dJ25_mergeRuns_281 rfl rfl ?_
  refine nd_acmp_neT hC (tgt := 295) (hne) dJ25_mergeRuns_282 (by decide) ?_
  refine nd_aload hC dJ25_mergeRuns_295 rfl rfl ?_
  refine nd_iload hC dJ25_mergeRuns_297 rfl ?_
  refine nd_ialoadN hC (hR2 _ _) (by omega) (by omega) dJ25_mergeRuns_299 ?_
  refine nd_v_eq (congrArg Value.int (E2)) ?_
  refine nd_istore hC dJ25_mergeRuns_300 (Nat.le_of_ble_eq_true rfl) ?_
  refine nd_aload hC dJ25_mergeRuns_302 rfl rfl ?_
  refine nd_aload_n hC dJ25_mergeRuns_304 rfl rfl ?_
  refine nd_acmp_neT hC (tgt := 318) (hne) dJ25_mergeRuns_305 (by decide) ?_
  refine nd_aload hC dJ25_mergeRuns_318 rfl rfl ?_
  refine nd_iload hC dJ25_mergeRuns_320 rfl ?_
  refine nd_ialoadN hC (hR2 _ _) (by omega) (by omega) dJ25_mergeRuns_322 ?_
  refine nd_v_eq (congrArg Value.int (E3)) ?_
  refine nd_istore hC dJ25_mergeRuns_323 (Nat.le_of_ble_eq_true rfl) ?_
  refine nd_lv (lv2 := [some (.ref A), some (.ref B), some (.int (nI off)), some (.int am), some (.int (nI 0)), some (.ref R), some (.int (nI lo)), some (.int (nI hi)), some (.int (nI mi)), l9, some (.ref B), some (.ref A), some (.ref A), some (.int (nI p)), some (.int (nI (p - off))), some (.int (nI (m - off))), some (.int (nI m)), some (.int (nI q))]) rfl ?_
  refine nd_iload hC dJ25_mergeRuns_325 rfl ?_
  first | with_reducible refine nd_if_eqB hC (tgt := 361) dJ25_mergeRuns_327 (by decide) (fun hq5 => ?_) (fun hq5 => ?_) | with_reducible refine nd_if_eqN hC (tgt := 361) (by omega) dJ25_mergeRuns_327 (by decide) (fun hq5 => ?_) (fun hq5 => ?_) | refine nd_if_eq hC (tgt := 361) dJ25_mergeRuns_327 (by decide) (fun hq5 => ?_) (fun hq5 => ?_)
  · skip
    refine nd_null hC dJ25_mergeRuns_361 ?_
    refine nd_aload hC dJ25_mergeRuns_362 rfl rfl ?_
    refine nd_iload hC dJ25_mergeRuns_364 rfl ?_
    refine nd_aload hC dJ25_mergeRuns_366 rfl rfl ?_
    refine nd_iload hC dJ25_mergeRuns_368 rfl ?_
    refine nd_iload hC dJ25_mergeRuns_370 rfl ?_
    refine nd_aload hC dJ25_mergeRuns_372 rfl rfl ?_
    refine nd_iload hC dJ25_mergeRuns_374 rfl ?_
    refine nd_iload hC dJ25_mergeRuns_376 rfl ?_
    have eL : ∀ i, p ≤ i → i < m → fb2 (i - off) = fb1 (i - off) := fun i a b => s2 (i - off) (by omega)
    have vL : so_v (p) (m) f (fun i => fb2 (i - off)) := pv.right eL
    have sL : so_s (p) (m) (fun i => fb2 (i - off)) := ps.congr eL
    have vR : so_v (m) (q) f (fun i => f2 (i - 0)) := sv.left (fun i a b => (p1 i (by omega)).symm)
    have sR : so_s (m) (q) (fun i => f2 (i - 0)) := ss2
    refine nd_callS (mm2 := mJ25_mergeParts) (As := [_, _, _, _, _, _, _, _, _]) (mc2 := 0) (ms2 := 0) (d2 := d - 1) hC rfl lkJ25_121 lmJ25_mergeParts (Nat.le_of_ble_eq_true rfl) (by omega) rfl (by exact Nat.le_of_ble_eq_true rfl) (by omega) (by omega) dJ25_mergeRuns_378 rfl ((so_mparts hg (k0 := (p)) (a := (p - off)) (b := (m - off)) (c := (m)) (e := (q)) (u := fb2) (w := f2) (g0 := f2) hA hB (hne) hn hmB (by omega) (by omega) (by omega) (by omega) (Or.inr ⟨rfl, rfl, by omega, by omega⟩) (sL.shift (o := off) (by omega) (by omega)) (sR.shift (o := 0) (by omega) (by omega)) (fun g1 Hm => ?_)))
    have MJ := mr_join (o1 := off) (o2 := 0) (o3 := 0) (p := p) (m := m) (q := q) Hm (by omega) (by omega) (by omega) (by omega) (by omega) hlm hmh vL vR
    obtain ⟨m1, m2, m3⟩ := MJ
    have RR := kk g1 fb2 ⟨fun i z => (m3 i z).trans ((s1 i (by omega)).trans (p1 i (by omega))), fun i z => (s2 i (by omega)).trans (p2 i (by omega)), Or.inl ⟨rfl, m1, m2⟩⟩ 
    refine nd_aload hC dJ25_mergeRuns_381 rfl rfl ?_
    refine nd_areturn hC rfl (by first | exact Or.inl ⟨_, rfl⟩ | exact Or.inr ⟨_, rfl⟩) (by rfl) (by omega) (by omega) dJ25_mergeRuns_383 (RR)
  · omega
theorem so_mrBB (hg : nd_OK g) (hC : nd_Cx g mJ25_mergeRuns X) {A n B mB R rl off lo mi hi p m q : Nat} {am : Int32} {l9 : Option Value} {rf : Nat → Int32} {f fb f1 fb1 f2 fb2 : Nat → Int64} (hd : 1 ≤ d) (hA : A < h.length) (hB : B < h.length) (hne : A ≠ B) (hR2 : ∀ f2 fb2, (so_hh h A n f2 B mB fb2)[R]? = some (.inl (0, rl, .inl rf))) (hr1 : lo < rl) (hr2 : mi < rl) (hr3 : hi < rl) (hrl2 : rl ≤ 100000) (E1 : rf lo = nI p) (E2 : rf mi = nI m) (E3 : rf hi = nI q) (ho : off ≤ p) (hlm : p ≤ m) (hmh : m ≤ q) (hqn : q ≤ n) (hqm : q - off ≤ mB) (hn : n ≤ 100000) (hmB : mB ≤ 100000) (p1 : ∀ i, ¬ (p ≤ i ∧ i < m) → f1 i = f i) (p2 : ∀ i, ¬ (p - off ≤ i ∧ i < m - off) → fb1 i = fb i) (pv : so_v p m f (fun i => fb1 (i - off))) (ps : so_s p m (fun i => fb1 (i - off))) (s1 : ∀ i, ¬ (m ≤ i ∧ i < q) → f2 i = f1 i) (s2 : ∀ i, ¬ (m - off ≤ i ∧ i < q - off) → fb2 i = fb1 i) (sv : so_v m q f1 (fun i => fb2 (i - off))) (ss2 : so_s m q (fun i => fb2 (i - off))) (kk : ∀ f3 fb3, mr_r A B off p q f fb f3 fb3 A → K (.inl (some (.ref A))) (so_hh h A n f3 B mB fb3)) : nd_W g mJ25_mergeRuns d 0 0 K X 197 [some (.ref A), some (.ref B), some (.int (nI off)), some (.int am), some (.int (nI 0)), some (.ref R), some (.int (nI lo)), some (.int (nI hi)), some (.int (nI mi)), l9, some (.ref B), some (.ref B), none, none, none, none, none, none] [] (so_hh h A n f2 B mB fb2) 0 0 := by
  refine nd_aload hC dJ25_mergeRuns_197 rfl rfl ?_
  refine nd_aload_n hC dJ25_mergeRuns_199 rfl rfl ?_
  refine nd_acmp_neT hC (tgt := 207) (hne.symm) dJ25_mergeRuns_200 (by decide) ?_
  refine nd_aload_n hC dJ25_mergeRuns_207 rfl rfl ?_
  refine nd_astore hC dJ25_mergeRuns_208 (Nat.le_of_ble_eq_true rfl) rfl ?_
  refine nd_aload hC dJ25_mergeRuns_210 rfl rfl ?_
  refine nd_aload_n hC dJ25_mergeRuns_212 rfl rfl ?_
  refine nd_acmp_neT hC (tgt := 226) (hne.symm) dJ25_mergeRuns_213 (by decide) ?_
  refine nd_aload hC dJ25_mergeRuns_226 rfl rfl ?_
  refine nd_iload hC dJ25_mergeRuns_228 rfl ?_
  refine nd_ialoadN hC (hR2 _ _) (by omega) (by omega) dJ25_mergeRuns_230 ?_
  refine nd_v_eq (congrArg Value.int (E1)) ?_
  refine nd_istore hC dJ25_mergeRuns_231 (Nat.le_of_ble_eq_true rfl) ?_
  refine nd_lv (lv2 := [some (.ref A), some (.ref B), some (.int (nI off)), some (.int am), some (.int (nI 0)), some (.ref R), some (.int (nI lo)), some (.int (nI hi)), some (.int (nI mi)), l9, some (.ref B), some (.ref B), some (.ref A), some (.int (nI p)), none, none, none, none]) rfl ?_
  refine nd_aload hC dJ25_mergeRuns_233 rfl rfl ?_
  refine nd_aload_n hC dJ25_mergeRuns_235 rfl rfl ?_
  refine nd_acmp_neF hC (tgt := 249) dJ25_mergeRuns_236 (by decide) ?_
  refine nd_aload hC dJ25_mergeRuns_239 rfl rfl ?_
  refine nd_iload hC dJ25_mergeRuns_241 rfl ?_
  refine nd_ialoadN hC (hR2 _ _) (by omega) (by omega) dJ25_mergeRuns_243 ?_
  refine nd_v_eq (congrArg Value.int (E1)) ?_
  refine nd_iload_n hC dJ25_mergeRuns_244 rfl ?_
  first | with_reducible refine nd_isubN hC (by omega) dJ25_mergeRuns_245 ?_ | refine nd_isub hC dJ25_mergeRuns_245 ?_
  refine nd_goto hC (tgt := 254) dJ25_mergeRuns_246 (by decide) ?_
  refine nd_istore hC dJ25_mergeRuns_254 (Nat.le_of_ble_eq_true rfl) ?_
  refine nd_aload hC dJ25_mergeRuns_256 rfl rfl ?_
  refine nd_aload_n hC dJ25_mergeRuns_258 rfl rfl ?_
  refine nd_acmp_neF hC (tgt := 272) dJ25_mergeRuns_259 (by decide) ?_
  refine nd_aload hC dJ25_mergeRuns_262 rfl rfl ?_
  refine nd_iload hC dJ25_mergeRuns_264 rfl ?_
  refine nd_ialoadN hC (hR2 _ _) (by omega) (by omega) dJ25_mergeRuns_266 ?_
  refine nd_v_eq (congrArg Value.int (E2)) ?_
  refine nd_iload_n hC dJ25_mergeRuns_267 rfl ?_
  first | with_reducible refine nd_isubN hC (by omega) dJ25_mergeRuns_268 ?_ | refine nd_isub hC dJ25_mergeRuns_268 ?_
  refine nd_goto hC (tgt := 277) dJ25_mergeRuns_269 (by decide) ?_
  refine nd_istore hC dJ25_mergeRuns_277 (Nat.le_of_ble_eq_true rfl) ?_
  refine nd_lv (lv2 := [some (.ref A), some (.ref B), some (.int (nI off)), some (.int am), some (.int (nI 0)), some (.ref R), some (.int (nI lo)), some (.int (nI hi)), some (.int (nI mi)), l9, some (.ref B), some (.ref B), some (.ref A), some (.int (nI p)), some (.int (nI (p - off))), some (.int (nI (m - off))), none, none]) rfl ?_
  refine nd_aload hC dJ25_mergeRuns_279 rfl rfl ?_
  refine nd_aload_n hC dJ25_mergeRuns_281 rfl rfl ?_
  refine nd_acmp_neF hC (tgt := 295) dJ25_mergeRuns_282 (by decide) ?_
  refine nd_aload hC dJ25_mergeRuns_285 rfl rfl ?_
  refine nd_iload hC dJ25_mergeRuns_287 rfl ?_
  refine nd_ialoadN hC (hR2 _ _) (by omega) (by omega) dJ25_mergeRuns_289 ?_
  refine nd_v_eq (congrArg Value.int (E2)) ?_
  refine nd_iload_n hC dJ25_mergeRuns_290 rfl ?_
  first | with_reducible refine nd_isubN hC (by omega) dJ25_mergeRuns_291 ?_ | refine nd_isub hC dJ25_mergeRuns_291 ?_
  refine nd_goto hC (tgt := 300) dJ25_mergeRuns_292 (by decide) ?_
  refine nd_istore hC dJ25_mergeRuns_300 (Nat.le_of_ble_eq_true rfl) ?_
  refine nd_aload hC dJ25_mergeRuns_302 rfl rfl ?_
  refine nd_aload_n hC dJ25_mergeRuns_304 rfl rfl ?_
  refine nd_acmp_neF hC (tgt := 318) dJ25_mergeRuns_305 (by decide) ?_
  refine nd_aload hC dJ25_mergeRuns_308 rfl rfl ?_
  refine nd_iload hC dJ25_mergeRuns_310 rfl ?_
  refine nd_ialoadN hC (hR2 _ _) (by omega) (by omega) dJ25_mergeRuns_312 ?_
  refine nd_v_eq (congrArg Value.int (E3)) ?_
  refine nd_iload_n hC dJ25_mergeRuns_313 rfl ?_
  first | with_reducible refine nd_isubN hC (by omega) dJ25_mergeRuns_314 ?_ | refine nd_isub hC dJ25_mergeRuns_314 ?_
  refine nd_goto hC (tgt := 323) dJ25_mergeRuns_315 (by decide) ?_
  refine nd_istore hC dJ25_mergeRuns_323 (Nat.le_of_ble_eq_true rfl) ?_
  refine nd_lv (lv2 := [some (.ref A), some (.ref B), some (.int (nI off)), some (.int am), some (.int (nI 0)), some (.ref R), some (.int (nI lo)), some (.int (nI hi)), some (.int (nI mi)), l9, some (.ref B), some (.ref B), some (.ref A), some (.int (nI p)), some (.int (nI (p - off))), some (.int (nI (m - off))), some (.int (nI (m - off))), some (.int (nI (q - off)))]) rfl ?_
  refine nd_iload hC dJ25_mergeRuns_325 rfl ?_
  first | with_reducible refine nd_if_eqB hC (tgt := 361) dJ25_mergeRuns_327 (by decide) (fun hq5 => ?_) (fun hq5 => ?_) | with_reducible refine nd_if_eqN hC (tgt := 361) (by omega) dJ25_mergeRuns_327 (by decide) (fun hq5 => ?_) (fun hq5 => ?_) | refine nd_if_eq hC (tgt := 361) dJ25_mergeRuns_327 (by decide) (fun hq5 => ?_) (fun hq5 => ?_)
  · skip
    refine nd_null hC dJ25_mergeRuns_361 ?_
    refine nd_aload hC dJ25_mergeRuns_362 rfl rfl ?_
    refine nd_iload hC dJ25_mergeRuns_364 rfl ?_
    refine nd_aload hC dJ25_mergeRuns_366 rfl rfl ?_
    refine nd_iload hC dJ25_mergeRuns_368 rfl ?_
    refine nd_iload hC dJ25_mergeRuns_370 rfl ?_
    refine nd_aload hC dJ25_mergeRuns_372 rfl rfl ?_
    refine nd_iload hC dJ25_mergeRuns_374 rfl ?_
    refine nd_iload hC dJ25_mergeRuns_376 rfl ?_
    have eL : ∀ i, p ≤ i → i < m → fb2 (i - off) = fb1 (i - off) := fun i a b => s2 (i - off) (by omega)
    have vL : so_v (p) (m) f (fun i => fb2 (i - off)) := pv.right eL
    have sL : so_s (p) (m) (fun i => fb2 (i - off)) := ps.congr eL
    have vR : so_v (m) (q) f (fun i => fb2 (i - off)) := sv.left (fun i a b => (p1 i (by omega)).symm)
    have sR : so_s (m) (q) (fun i => fb2 (i - off)) := ss2
    refine nd_callS (mm2 := mJ25_mergeParts) (As := [_, _, _, _, _, _, _, _, _]) (mc2 := 0) (ms2 := 0) (d2 := d - 1) hC rfl lkJ25_121 lmJ25_mergeParts (Nat.le_of_ble_eq_true rfl) (by omega) rfl (by exact Nat.le_of_ble_eq_true rfl) (by omega) (by omega) dJ25_mergeRuns_378 rfl ((so_mparts hg (k0 := (p)) (a := (p - off)) (b := (m - off)) (c := (m - off)) (e := (q - off)) (u := fb2) (w := fb2) (g0 := f2) hA hB (hne) hn hmB (by omega) (by omega) (by omega) (by omega) (Or.inl ⟨rfl, rfl, by omega⟩) (sL.shift (o := off) (by omega) (by omega)) (sR.shift (o := off) (by omega) (by omega)) (fun g1 Hm => ?_)))
    have MJ := mr_join (o1 := off) (o2 := off) (o3 := 0) (p := p) (m := m) (q := q) Hm (by omega) (by omega) (by omega) (by omega) (by omega) hlm hmh vL vR
    obtain ⟨m1, m2, m3⟩ := MJ
    have RR := kk g1 fb2 ⟨fun i z => (m3 i z).trans ((s1 i (by omega)).trans (p1 i (by omega))), fun i z => (s2 i (by omega)).trans (p2 i (by omega)), Or.inl ⟨rfl, m1, m2⟩⟩ 
    refine nd_aload hC dJ25_mergeRuns_381 rfl rfl ?_
    refine nd_areturn hC rfl (by first | exact Or.inl ⟨_, rfl⟩ | exact Or.inr ⟨_, rfl⟩) (by rfl) (by omega) (by omega) dJ25_mergeRuns_383 (RR)
  · omega
theorem so_mruns (hg : nd_OK g) {A n B m R rl cnt off : Nat} {rf : Nat → Int32} {r : Nat → Nat} (hA : A < h.length) (hB : B < h.length) (hne : A ≠ B) (hR : h[R]? = some (.inl (0, rl, .inl rf))) (hRA : R ≠ A) (hRB : R ≠ B) (hrl : cnt < rl) (hrl2 : rl ≤ 100000) (hrf : ∀ i, i ≤ cnt → rf i = nI (r i)) (hr : ∀ i, i < cnt → r i < r (i + 1)) (hoff : off ≤ r 0) (hrn : r cnt ≤ n) (hrm : r cnt - off ≤ m) (hn : n ≤ 100000) (hm : m ≤ 100000) : ∀ t d lo hi (am : Int32) f fb K, hi - lo ≤ t → t + 1 ≤ d → lo < hi → hi ≤ cnt → (am = nI 1 ∨ am = nI 0 ∨ am = -1) → (∀ i, lo ≤ i → i < hi → so_s (r i) (r (i + 1)) f) → (∀ Y f2 fb2, mr_r A B off (r lo) (r hi) f fb f2 fb2 Y → (am = nI 1 → Y = A) → (am = -1 → Y = B) → K (.inl (some (.ref Y))) (so_hh h A n f2 B m fb2)) → nd_M g mJ25_mergeRuns d 0 0 [.ref A, .ref B, .int (nI off), .int am, .int (nI 0), .ref R, .int (nI lo), .int (nI hi)] (so_hh h A n f B m fb) K := by
  have hmo : ∀ i j, i ≤ j → j ≤ cnt → r i ≤ r j := by
    intro i j h1 h2
    have M := r_mono hr (j - i) i (by omega)
    rw [show i + (j - i) = j by omega] at M
    omega
  intro t
  induction t with
  | zero => intro d lo hi am f fb K h1 h2 h3; omega
  | succ t ih =>
    intro d lo hi am f fb K ht hd hlh hhc ham hs hk
    have hlo : off ≤ r lo := Nat.le_trans hoff (hmo 0 lo (by omega) (by omega))
    have hlh2 : r lo < r hi := by
      have M := r_mono hr (hi - lo) lo (by omega)
      rw [show lo + (hi - lo) = hi by omega] at M
      omega
    have hhn : r hi ≤ r cnt := hmo hi cnt hhc (Nat.le_refl _)
    have hR2 : ∀ f2 fb2, (so_hh h A n f2 B m fb2)[R]? = some (.inl (0, rl, .inl rf)) := fun f2 fb2 => (so_hh.o hRA hRB).trans hR
    refine nd_enter hg (by decide) rfl (Nat.le_of_ble_eq_true rfl) (fun X hC => ?_)
    refine nd_iload hC dJ25_mergeRuns_0 rfl ?_
    refine nd_iload hC dJ25_mergeRuns_2 rfl ?_
    first | with_reducible refine nd_isubN hC (by omega) dJ25_mergeRuns_4 ?_ | refine nd_isub hC dJ25_mergeRuns_4 ?_
    refine nd_iconst hC (v := nI 1) (by rfl) dJ25_mergeRuns_5 ?_
    first | with_reducible refine nd_icmp_neN hC (tgt := 61) (by omega) (by omega) dJ25_mergeRuns_6 (by decide) (fun hq => ?_) (fun hq => ?_) | refine nd_icmp_ne hC (tgt := 61) dJ25_mergeRuns_6 (by decide) (fun hq => ?_) (fun hq => ?_)
    · -- more than one run
      refine nd_iload hC dJ25_mergeRuns_61 rfl ?_
      refine nd_istore hC dJ25_mergeRuns_63 (Nat.le_of_ble_eq_true rfl) ?_
      refine nd_aload hC dJ25_mergeRuns_65 rfl rfl ?_
      refine nd_iload hC dJ25_mergeRuns_67 rfl ?_
      refine nd_ialoadN hC (hR2 _ _) (by omega) (by omega) dJ25_mergeRuns_69 ?_
      refine nd_v_eq (congrArg Value.int (hrf lo (by omega))) ?_
      refine nd_aload hC dJ25_mergeRuns_70 rfl rfl ?_
      refine nd_iload hC dJ25_mergeRuns_72 rfl ?_
      refine nd_ialoadN hC (hR2 _ _) (by omega) (by omega) dJ25_mergeRuns_74 ?_
      refine nd_v_eq (congrArg Value.int (hrf hi (by omega))) ?_
      first | with_reducible refine nd_iaddN hC dJ25_mergeRuns_75 ?_ | refine nd_iadd hC dJ25_mergeRuns_75 ?_
      refine nd_iconst hC (v := nI 1) (by rfl) dJ25_mergeRuns_76 ?_
      refine nd_iushr hC dJ25_mergeRuns_77 ?_
      rw [i_half (by omega)]
      refine nd_istore hC dJ25_mergeRuns_78 (Nat.le_of_ble_eq_true rfl) ?_
      have J : ∀ mi, lo < mi → mi < hi → nd_W g mJ25_mergeRuns d 0 0 K X 98 [some (.ref A), some (.ref B), some (.int (nI off)), some (.int am), some (.int (nI 0)), some (.ref R), some (.int (nI lo)), some (.int (nI hi)), some (.int (nI mi)), some (.int (nI ((r lo + r hi) / 2))), none, none, none, none, none, none, none, none] [] (so_hh h A n f B m fb) 0 0 := by
        intro mi hm1 hm2
        have hlm : r lo ≤ r mi := hmo lo mi (by omega) (by omega)
        have hmh : r mi ≤ r hi := hmo mi hi (by omega) (by omega)
        refine nd_iload hC dJ25_mergeRuns_98 rfl ?_
        first | with_reducible refine nd_if_eqB hC (tgt := 164) dJ25_mergeRuns_100 (by decide) (fun hq2 => ?_) (fun hq2 => ?_) | with_reducible refine nd_if_eqN hC (tgt := 164) (by omega) dJ25_mergeRuns_100 (by decide) (fun hq2 => ?_) (fun hq2 => ?_) | refine nd_if_eq hC (tgt := 164) dJ25_mergeRuns_100 (by decide) (fun hq2 => ?_) (fun hq2 => ?_)
        · skip
          refine nd_aload_n hC dJ25_mergeRuns_164 rfl rfl ?_
          refine nd_aload_n hC dJ25_mergeRuns_165 rfl rfl ?_
          refine nd_iload_n hC dJ25_mergeRuns_166 rfl ?_
          refine nd_iload_n hC dJ25_mergeRuns_167 rfl ?_
          refine nd_ineg hC dJ25_mergeRuns_168 ?_
          refine nd_iconst hC (v := nI 0) (by rfl) dJ25_mergeRuns_169 ?_
          refine nd_aload hC dJ25_mergeRuns_170 rfl rfl ?_
          refine nd_iload hC dJ25_mergeRuns_172 rfl ?_
          refine nd_iload hC dJ25_mergeRuns_174 rfl ?_
          refine nd_callS (mm2 := mJ25_mergeRuns) (As := [_, _, _, _, _, _, _, _]) (mc2 := 0) (ms2 := 0) (d2 := d - 1) hC rfl lkJ25_118 lmJ25_mergeRuns (Nat.le_of_ble_eq_true rfl) (by omega) rfl (by exact Nat.le_of_ble_eq_true rfl) (by omega) (by omega) dJ25_mergeRuns_176 rfl ((ih (d - 1) lo mi (-am) f fb _ (by omega) (by omega) hm1 (by omega) (by rcases ham with e | e | e <;> subst e <;> decide) (fun i a b => hs i a (by omega)) (fun Y1 f1 fb1 H1 Z1 Z1b => ?_)))
          refine nd_astore hC dJ25_mergeRuns_179 (Nat.le_of_ble_eq_true rfl) rfl ?_
          refine nd_aload_n hC dJ25_mergeRuns_181 rfl rfl ?_
          refine nd_aload_n hC dJ25_mergeRuns_182 rfl rfl ?_
          refine nd_iload_n hC dJ25_mergeRuns_183 rfl ?_
          refine nd_iconst hC (v := nI 0) (by rfl) dJ25_mergeRuns_184 ?_
          refine nd_iconst hC (v := nI 0) (by rfl) dJ25_mergeRuns_185 ?_
          refine nd_aload hC dJ25_mergeRuns_186 rfl rfl ?_
          refine nd_iload hC dJ25_mergeRuns_188 rfl ?_
          refine nd_iload hC dJ25_mergeRuns_190 rfl ?_
          refine nd_callS (mm2 := mJ25_mergeRuns) (As := [_, _, _, _, _, _, _, _]) (mc2 := 0) (ms2 := 0) (d2 := d - 1) hC rfl lkJ25_118 lmJ25_mergeRuns (Nat.le_of_ble_eq_true rfl) (by omega) rfl (by exact Nat.le_of_ble_eq_true rfl) (by omega) (by omega) dJ25_mergeRuns_192 rfl ((ih (d - 1) mi hi (nI 0) f1 fb1 _ (by omega) (by omega) hm2 (by omega) (Or.inr (Or.inl rfl)) (fun i a b => (hs i (by omega) b).congr (fun x c1 c2 => H1.1 x (by have := hmo mi i a (by omega); omega))) (fun Y2 f2 fb2 H2 _ _ => ?_)))
          refine nd_astore hC dJ25_mergeRuns_195 (Nat.le_of_ble_eq_true rfl) rfl ?_
          obtain ⟨p1, p2, p3⟩ := H1
          obtain ⟨s1, s2, s3⟩ := H2
          rcases p3 with ⟨eY, pv, ps⟩ | ⟨eY, pv, ps⟩
          · rcases s3 with ⟨eY2, sv, ss2⟩ | ⟨eY2, sv, ss2⟩
            · rw [eY, eY2]
              exact so_mrAA hg hC (by omega) hA hB hne hR2 (by omega) (by omega) (by omega) hrl2 (hrf lo (by omega)) (hrf mi (by omega)) (hrf hi (by omega)) hlo hlm hmh (by omega) (by omega) hn hm p1 p2 pv ps s1 s2 sv ss2 (fun f3 fb3 H => hk B f3 fb3 H (fun e1 => absurd (eY.symm.trans (Z1b (by rw [e1]; decide))) hne) (fun _ => rfl))
            · rw [eY, eY2]
              exact so_mrAB hg hC (by omega) hA hB hne hR2 (by omega) (by omega) (by omega) hrl2 (hrf lo (by omega)) (hrf mi (by omega)) (hrf hi (by omega)) hlo hlm hmh (by omega) (by omega) hn hm p1 p2 pv ps s1 s2 sv ss2 (fun f3 fb3 H => hk B f3 fb3 H (fun e1 => absurd (eY.symm.trans (Z1b (by rw [e1]; decide))) hne) (fun _ => rfl))
          · rcases s3 with ⟨eY2, sv, ss2⟩ | ⟨eY2, sv, ss2⟩
            · rw [eY, eY2]
              exact so_mrBA hg hC (by omega) hA hB hne hR2 (by omega) (by omega) (by omega) hrl2 (hrf lo (by omega)) (hrf mi (by omega)) (hrf hi (by omega)) hlo hlm hmh (by omega) (by omega) hn hm p1 p2 pv ps s1 s2 sv ss2 (fun f3 fb3 H => hk A f3 fb3 H (fun _ => rfl) (fun e1 => absurd (eY.symm.trans (Z1 (by rw [e1]; decide))) hne.symm))
            · rw [eY, eY2]
              exact so_mrBB hg hC (by omega) hA hB hne hR2 (by omega) (by omega) (by omega) hrl2 (hrf lo (by omega)) (hrf mi (by omega)) (hrf hi (by omega)) hlo hlm hmh (by omega) (by omega) hn hm p1 p2 pv ps s1 s2 sv ss2 (fun f3 fb3 H => hk A f3 fb3 H (fun _ => rfl) (fun e1 => absurd (eY.symm.trans (Z1 (by rw [e1]; decide))) hne.symm))
        · omega
      have L : ∀ t mi, lo ≤ mi → mi + 2 + t = hi → nd_W g mJ25_mergeRuns d 0 0 K X 80 [some (.ref A), some (.ref B), some (.int (nI off)), some (.int am), some (.int (nI 0)), some (.ref R), some (.int (nI lo)), some (.int (nI hi)), some (.int (nI mi)), some (.int (nI ((r lo + r hi) / 2))), none, none, none, none, none, none, none, none] [] (so_hh h A n f B m fb) 0 0 := by
        intro t
        induction t with
        | zero =>
          intro mi h1 h2
          have hb3 := hmo (mi + 1 + 1) hi (by omega) (by omega)
          refine nd_aload hC dJ25_mergeRuns_80 rfl rfl ?_
          first | with_reducible refine nd_iincN hC dJ25_mergeRuns_82 rfl (Nat.le_of_ble_eq_true rfl) ?_ | refine nd_iinc hC dJ25_mergeRuns_82 rfl rfl (Nat.le_of_ble_eq_true rfl) ?_
          refine nd_iload hC dJ25_mergeRuns_85 rfl ?_
          refine nd_iconst hC (v := nI 1) (by rfl) dJ25_mergeRuns_87 ?_
          first | with_reducible refine nd_iaddN hC dJ25_mergeRuns_88 ?_ | refine nd_iadd hC dJ25_mergeRuns_88 ?_
          refine nd_ialoadN hC (hR2 _ _) (by omega) (by omega) dJ25_mergeRuns_89 ?_
          refine nd_v_eq (congrArg Value.int (hrf (mi + 1 + 1) (by omega))) ?_
          refine nd_iload hC dJ25_mergeRuns_90 rfl ?_
          first | with_reducible refine nd_icmp_gtN hC (tgt := 98) (by omega) (by omega) dJ25_mergeRuns_92 (by decide) (fun hq2 => ?_) (fun hq2 => ?_) | refine nd_icmp_gt hC (tgt := 98) dJ25_mergeRuns_92 (by decide) (fun hq2 => ?_) (fun hq2 => ?_)
          · exact J (mi + 1) (by omega) (by omega)
          · exfalso
            rw [show mi + 1 + 1 = hi by omega] at hq2
            omega
        | succ t ih2 =>
          intro mi h1 h2
          have hb3 := hmo (mi + 1 + 1) hi (by omega) (by omega)
          refine nd_aload hC dJ25_mergeRuns_80 rfl rfl ?_
          first | with_reducible refine nd_iincN hC dJ25_mergeRuns_82 rfl (Nat.le_of_ble_eq_true rfl) ?_ | refine nd_iinc hC dJ25_mergeRuns_82 rfl rfl (Nat.le_of_ble_eq_true rfl) ?_
          refine nd_iload hC dJ25_mergeRuns_85 rfl ?_
          refine nd_iconst hC (v := nI 1) (by rfl) dJ25_mergeRuns_87 ?_
          first | with_reducible refine nd_iaddN hC dJ25_mergeRuns_88 ?_ | refine nd_iadd hC dJ25_mergeRuns_88 ?_
          refine nd_ialoadN hC (hR2 _ _) (by omega) (by omega) dJ25_mergeRuns_89 ?_
          refine nd_v_eq (congrArg Value.int (hrf (mi + 1 + 1) (by omega))) ?_
          refine nd_iload hC dJ25_mergeRuns_90 rfl ?_
          first | with_reducible refine nd_icmp_gtN hC (tgt := 98) (by omega) (by omega) dJ25_mergeRuns_92 (by decide) (fun hq2 => ?_) (fun hq2 => ?_) | refine nd_icmp_gt hC (tgt := 98) dJ25_mergeRuns_92 (by decide) (fun hq2 => ?_) (fun hq2 => ?_)
          · exact J (mi + 1) (by omega) (by omega)
          · refine nd_goto hC (tgt := 80) dJ25_mergeRuns_95 (by decide) ?_
            exact ih2 (mi + 1) (by omega) (by omega)
      exact L (hi - lo - 2) lo (Nat.le_refl _) (by omega)
    · -- one run
      have e1 : hi = lo + 1 := by omega
      subst e1
      have hs1 := hs lo (Nat.le_refl _) (by omega)
      refine nd_iload_n hC dJ25_mergeRuns_9 rfl ?_
      refine nd_if_lt hC (tgt := 15) dJ25_mergeRuns_10 (by decide) (fun hq2 => ?_) (fun hq2 => ?_)
      · have e9 : am = -1 := by
          rcases ham with e | e | e
          · subst e; exact absurd hq2 (by decide)
          · subst e; exact absurd hq2 (by decide)
          · exact e
        refine nd_aload hC dJ25_mergeRuns_15 rfl rfl ?_
        refine nd_iload hC dJ25_mergeRuns_17 rfl ?_
        refine nd_ialoadN hC (hR2 _ _) (by omega) (by omega) dJ25_mergeRuns_19 ?_
        refine nd_v_eq (congrArg Value.int (hrf (lo + 1) (by omega))) ?_
        refine nd_istore hC dJ25_mergeRuns_20 (Nat.le_of_ble_eq_true rfl) ?_
        refine nd_iload hC dJ25_mergeRuns_22 rfl ?_
        refine nd_iload_n hC dJ25_mergeRuns_24 rfl ?_
        first | with_reducible refine nd_isubN hC (by omega) dJ25_mergeRuns_25 ?_ | refine nd_isub hC dJ25_mergeRuns_25 ?_
        refine nd_istore hC dJ25_mergeRuns_26 (Nat.le_of_ble_eq_true rfl) ?_
        refine nd_aload hC dJ25_mergeRuns_28 rfl rfl ?_
        refine nd_iload hC dJ25_mergeRuns_30 rfl ?_
        refine nd_ialoadN hC (hR2 _ _) (by omega) (by omega) dJ25_mergeRuns_32 ?_
        refine nd_v_eq (congrArg Value.int (hrf lo (by omega))) ?_
        refine nd_istore hC dJ25_mergeRuns_33 (Nat.le_of_ble_eq_true rfl) ?_
        rw [so_hh.comm hne]
        have L : ∀ t fb1, r lo + t ≤ r (lo + 1) → (∀ q, ¬ (r lo - off ≤ q ∧ q < r (lo + 1) - off) → fb1 q = fb q) → (∀ q, r lo + t ≤ q → q < r (lo + 1) → fb1 (q - off) = f q) → nd_W g mJ25_mergeRuns d 0 0 K X 35 [some (.ref A), some (.ref B), some (.int (nI off)), some (.int am), some (.int (nI 0)), some (.ref R), some (.int (nI lo)), some (.int (nI (lo + 1))), some (.int (nI (r lo + t))), some (.int (nI (r lo + t - off))), some (.int (nI (r lo))), none, none, none, none, none, none, none] [] (so_hh h B m fb1 A n f) 0 0 := by
          intro t
          induction t with
          | zero =>
            intro fb1 h1 h2 h3
            refine nd_iload hC dJ25_mergeRuns_35 rfl ?_
            refine nd_iload hC dJ25_mergeRuns_37 rfl ?_
            first | with_reducible refine nd_icmp_leN hC (tgt := 59) (by omega) (by omega) dJ25_mergeRuns_39 (by decide) (fun hq4 => ?_) (fun hq4 => ?_) | refine nd_icmp_le hC (tgt := 59) dJ25_mergeRuns_39 (by decide) (fun hq4 => ?_) (fun hq4 => ?_)
            · rw [so_hh.comm hne.symm]
              have e3 : ∀ i, r lo ≤ i → i < r (lo + 1) → fb1 (i - off) = f i := fun i a b => h3 i (by omega) b
              have RR := hk B f fb1 ⟨fun i z => rfl, h2, Or.inr ⟨rfl, so_v.rfl.right e3, hs1.congr e3⟩⟩ (fun z => by rw [e9] at z; exact absurd z (by decide)) (fun _ => rfl)
              refine nd_aload_n hC dJ25_mergeRuns_59 rfl rfl ?_
              refine nd_areturn hC rfl (by first | exact Or.inl ⟨_, rfl⟩ | exact Or.inr ⟨_, rfl⟩) (by rfl) (by omega) (by omega) dJ25_mergeRuns_60 (RR)
            · omega
          | succ t ih2 =>
            intro fb1 h1 h2 h3
            have hlo2 := hlo
            refine nd_iload hC dJ25_mergeRuns_35 rfl ?_
            refine nd_iload hC dJ25_mergeRuns_37 rfl ?_
            first | with_reducible refine nd_icmp_leN hC (tgt := 59) (by omega) (by omega) dJ25_mergeRuns_39 (by decide) (fun hq4 => ?_) (fun hq4 => ?_) | refine nd_icmp_le hC (tgt := 59) dJ25_mergeRuns_39 (by decide) (fun hq4 => ?_) (fun hq4 => ?_)
            · omega
            refine nd_aload_n hC dJ25_mergeRuns_42 rfl rfl ?_
            first | with_reducible refine nd_iincN hC dJ25_mergeRuns_43 rfl (Nat.le_of_ble_eq_true rfl) ?_ | refine nd_iinc hC dJ25_mergeRuns_43 rfl rfl (Nat.le_of_ble_eq_true rfl) ?_
            rw [i_dec, show r lo + (t + 1) - off = r lo + t - off + 1 by omega, i_pred (by omega)]
            refine nd_iload hC dJ25_mergeRuns_46 rfl ?_
            refine nd_aload_n hC dJ25_mergeRuns_48 rfl rfl ?_
            first | with_reducible refine nd_iincN hC dJ25_mergeRuns_49 rfl (Nat.le_of_ble_eq_true rfl) ?_ | refine nd_iinc hC dJ25_mergeRuns_49 rfl rfl (Nat.le_of_ble_eq_true rfl) ?_
            rw [i_dec, show r lo + (t + 1) = r lo + t + 1 from rfl, i_pred (by omega)]
            refine nd_iload hC dJ25_mergeRuns_52 rfl ?_
            refine nd_laloadN hC (so_hh.s hA) (by omega) (by omega) dJ25_mergeRuns_54 ?_
            refine so_hst hC hB hne.symm hm (by omega) dJ25_mergeRuns_55 ?_
            refine nd_goto hC (tgt := 35) dJ25_mergeRuns_56 (by decide) ?_
            refine ih2 _ (by omega) (fun q z => ?_) (fun q z1 z2 => ?_)
            · rw [uL_n (by omega)]; exact h2 q z
            · by_cases e5 : q = r lo + t
              · subst e5; rw [uL_s]
              · rw [uL_n (by omega)]; exact h3 q (by omega) z2
        have M := L (r (lo + 1) - r lo) fb (by omega) (fun q z => rfl) (fun q z1 z2 => by omega)
        rw [show r lo + (r (lo + 1) - r lo) = r (lo + 1) by omega] at M
        exact M
      · have RR := hk A f fb ⟨fun i z => rfl, fun i z => rfl, Or.inl ⟨rfl, so_v.rfl, hs1⟩⟩ (fun _ => rfl) (fun z => by rw [z] at hq2; exact absurd (by decide) hq2)
        refine nd_aload_n hC dJ25_mergeRuns_13 rfl rfl ?_
        refine nd_areturn hC rfl (by first | exact Or.inl ⟨_, rfl⟩ | exact Or.inr ⟨_, rfl⟩) (by rfl) (by omega) (by omega) dJ25_mergeRuns_14 (RR)
end SO9904


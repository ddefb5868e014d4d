set_option maxRecDepth 100000
section NDMA
variable {g : nd_G} {mm : nd_Mt} {d mc ms : Nat} {K : nd_K} {X : nd_X} {pc : Nat} {lv : List (Option Value)} {st : List Value} {h : nd_H} {cs ss : Nat}
theorem nd_mmax (hC : nd_Cx g mm X) {index : Nat} {x y : Int32} (hl0 : Cond.methodLink mm.1.cls index ⟨"java/lang/Math", "max", "(II)I"⟩ ∈ lw_all) (hcs : cs ≤ mc) (hss : ss ≤ ms) (hrest : (st.map nd_cn).sum ≤ 8) (hd : decode mm.2.1 pc = .ok (.invokestatic index, 3)) (k : nd_W g mm d mc ms K X (pc + 3) lv (.int (if x < y then y else x) :: st) h cs ss) : nd_W g mm d mc ms K X pc lv (.int y :: .int x :: st) h cs ss := by
  intro H ls locs hl hR hS
  refine va_mmax hC.1 hC.2.1 (by rw [hC.ml, hl.1]) hC.own (hC.hts _ hl0) (hC.hts _ q469) (hC.hts _ q166) (hC.hts _ q470) (by show 1 ≤ d + 20; omega) ?_ hcs hss hd (k H ls locs hl hR hS)
  rw [nd_cn_sum hC.ok]
  show _ ≤ 64 * d + 10300
  omega
theorem nd_mmin (hC : nd_Cx g mm X) {index : Nat} {x y : Int32} (hl0 : Cond.methodLink mm.1.cls index ⟨"java/lang/Math", "min", "(II)I"⟩ ∈ lw_all) (hcs : cs ≤ mc) (hss : ss ≤ ms) (hrest : (st.map nd_cn).sum ≤ 8) (hd : decode mm.2.1 pc = .ok (.invokestatic index, 3)) (k : nd_W g mm d mc ms K X (pc + 3) lv (.int (if y < x then y else x) :: st) h cs ss) : nd_W g mm d mc ms K X pc lv (.int y :: .int x :: st) h cs ss := by
  intro H ls locs hl hR hS
  refine va_mmin hC.1 hC.2.1 (by rw [hC.ml, hl.1]) hC.own (hC.hts _ hl0) (hC.hts _ q745) (hC.hts _ q166) (hC.hts _ q746) (by show 1 ≤ d + 20; omega) ?_ hcs hss hd (k H ls locs hl hR hS)
  rw [nd_cn_sum hC.ok]
  show _ ≤ 64 * d + 10300
  omega
theorem nd_mmaxL (hC : nd_Cx g mm X) {index : Nat} {x y : Int64} (hl0 : Cond.methodLink mm.1.cls index ⟨"java/lang/Math", "max", "(JJ)J"⟩ ∈ lw_all) (hcs : cs ≤ mc) (hss : ss ≤ ms) (hrest : (st.map nd_cn).sum ≤ 8) (hd : decode mm.2.1 pc = .ok (.invokestatic index, 3)) (k : nd_W g mm d mc ms K X (pc + 3) lv (.long (if y < x then x else y) :: st) h cs ss) : nd_W g mm d mc ms K X pc lv (.long y :: .long x :: st) h cs ss := by
  intro H ls locs hl hR hS
  refine va_mmax_long hC.1 hC.2.1 (by rw [hC.ml, hl.1]) hC.own (hC.hts _ hl0) (hC.hts _ q571) (hC.hts _ q166) (hC.hts _ q572) (by show 1 ≤ d + 20; omega) ?_ hcs hss hd (k H ls locs hl hR hS)
  rw [nd_cn_sum hC.ok]
  show _ ≤ 64 * d + 10300
  omega
theorem nd_mminL (hC : nd_Cx g mm X) {index : Nat} {x y : Int64} (hl0 : Cond.methodLink mm.1.cls index ⟨"java/lang/Math", "min", "(JJ)J"⟩ ∈ lw_all) (hcs : cs ≤ mc) (hss : ss ≤ ms) (hrest : (st.map nd_cn).sum ≤ 8) (hd : decode mm.2.1 pc = .ok (.invokestatic index, 3)) (k : nd_W g mm d mc ms K X (pc + 3) lv (.long (if y < x then y else x) :: st) h cs ss) : nd_W g mm d mc ms K X pc lv (.long y :: .long x :: st) h cs ss := by
  intro H ls locs hl hR hS
  refine va_mmin_long hC.1 hC.2.1 (by rw [hC.ml, hl.1]) hC.own (hC.hts _ hl0) (hC.hts _ q568) (hC.hts _ q166) (hC.hts _ q569) (by show 1 ≤ d + 20; omega) ?_ hcs hss hd (k H ls locs hl hR hS)
  rw [nd_cn_sum hC.ok]
  show _ ≤ 64 * d + 10300
  omega
theorem nd_tst2 {a b : Nat} (k : nd_W g mm d mc ms K X pc lv (.int (nI b) :: .int (nI a) :: st) h cs ss) : nd_W g mm d mc ms K X pc lv (.int (nI b) :: .int (nI a) :: st) h cs ss := k
theorem nd_mmaxN (hC : nd_Cx g mm X) {index a b : Nat} (ha : a < 2 ^ 31) (hb : b < 2 ^ 31) (hl0 : Cond.methodLink mm.1.cls index ⟨"java/lang/Math", "max", "(II)I"⟩ ∈ lw_all) (hcs : cs ≤ mc) (hss : ss ≤ ms) (hrest : (st.map nd_cn).sum ≤ 8) (hd : decode mm.2.1 pc = .ok (.invokestatic index, 3)) (k : nd_W g mm d mc ms K X (pc + 3) lv (.int (nI (max a b)) :: st) h cs ss) : nd_W g mm d mc ms K X pc lv (.int (nI b) :: .int (nI a) :: st) h cs ss := by
  refine nd_mmax hC hl0 hcs hss hrest hd ?_
  have e : (if nI a < nI b then nI b else nI a) = nI (max a b) := by
    by_cases q : a < b
    · rw [if_pos ((nI_ltI ha hb).mpr q), Nat.max_eq_right (by omega)]
    · rw [if_neg (fun z => q ((nI_ltI ha hb).mp z)), Nat.max_eq_left (by omega)]
  rw [e]; exact k
theorem nd_mminN (hC : nd_Cx g mm X) {index a b : Nat} (ha : a < 2 ^ 31) (hb : b < 2 ^ 31) (hl0 : Cond.methodLink mm.1.cls index ⟨"java/lang/Math", "min", "(II)I"⟩ ∈ lw_all) (hcs : cs ≤ mc) (hss : ss ≤ ms) (hrest : (st.map nd_cn).sum ≤ 8) (hd : decode mm.2.1 pc = .ok (.invokestatic index, 3)) (k : nd_W g mm d mc ms K X (pc + 3) lv (.int (nI (min a b)) :: st) h cs ss) : nd_W g mm d mc ms K X pc lv (.int (nI b) :: .int (nI a) :: st) h cs ss := by
  refine nd_mmin hC hl0 hcs hss hrest hd ?_
  have e : (if nI b < nI a then nI b else nI a) = nI (min a b) := by
    by_cases q : b < a
    · rw [if_pos ((nI_ltI hb ha).mpr q), Nat.min_eq_right (by omega)]
    · rw [if_neg (fun z => q ((nI_ltI hb ha).mp z)), Nat.min_eq_left (by omega)]
  rw [e]; exact k
theorem nd_laddN (hC : nd_Cx g mm X) {a b : Nat} (hd : decode mm.2.1 pc = .ok (.ladd, 1)) (k : nd_W g mm d mc ms K X (pc + 1) lv (.long (lN (a + b)) :: st) h cs ss) : nd_W g mm d mc ms K X pc lv (.long (lN b) :: .long (lN a) :: st) h cs ss := by
  refine nd_ladd hC hd ?_
  rw [lN_add]; exact k
theorem nd_lmulN (hC : nd_Cx g mm X) {a b : Nat} (hd : decode mm.2.1 pc = .ok (.lmul, 1)) (k : nd_W g mm d mc ms K X (pc + 1) lv (.long (lN (a * b)) :: st) h cs ss) : nd_W g mm d mc ms K X pc lv (.long (lN b) :: .long (lN a) :: st) h cs ss := by
  refine nd_lmul hC hd ?_
  rw [lN_mul]; exact k
end NDMA

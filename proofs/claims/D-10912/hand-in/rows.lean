section
section
variable {post : Int32 → St2 → Prop} {t i mj mn dg lo hi il ih mc : Int32} {a1 a2 a3 a4 a5 a6 a7 a8 : Nat → Int32} {p : Int32}
theorem zq_in0 {n : Nat} (h : 0 < n) : vp_in 0 n := vp_in_iff.mpr ⟨by decide, by
  have e : (0 : Int32).toInt = 0 := by decide
  rw [e]
  omega⟩
/-! pass: at the text's end; another letter; this letter -/
theorem zq_passE (h : t ≤ i) (H : post 0 (t, i, mj, mn, dg, lo, hi, il, ih, mc, a1, a2, a3, a4, a5, a6, a7, a8)) : wpX_pass post (t, i, mj, mn, dg, lo, hi, il, ih, mc, a1, a2, a3, a4, a5, a6, a7, a8) p := br_t h H
theorem zq_passN (h : ¬ a1 0 = p) (H : post 0 (1, 0, mj, mn, dg, lo, hi, il, ih, mc, a1, a2, a3, a4, a5, a6, a7, a8)) : wpX_pass post (1, 0, mj, mn, dg, lo, hi, il, ih, mc, a1, a2, a3, a4, a5, a6, a7, a8) p :=
  br_f (by decide) ⟨zq_in0 (by decide), br_f h H⟩
theorem zq_passY (h : a1 0 = p) (H : post 1 (1, 1, mj, mn, dg, lo, hi, il, ih, mc, a1, a2, a3, a4, a5, a6, a7, a8)) : wpX_pass post (1, 0, mj, mn, dg, lo, hi, il, ih, mc, a1, a2, a3, a4, a5, a6, a7, a8) p :=
  br_f (by decide) ⟨zq_in0 (by decide), br_t h (nm_r (e' := 1) (by decide) H)⟩
theorem zq_digY {Q : Int32 → Prop} (h1 : ¬ p < 48) (h2 : ¬ 57 < p) (H : Q 1) : wpX_isDigit Q (t, i, mj, mn, dg, lo, hi, il, ih, mc, a1, a2, a3, a4, a5, a6, a7, a8) p := br_f h1 (br_f h2 H)
theorem zq_digN {Q : Int32 → Prop} (h : p < 48 ∨ 57 < p) (H : Q 0) : wpX_isDigit Q (t, i, mj, mn, dg, lo, hi, il, ih, mc, a1, a2, a3, a4, a5, a6, a7, a8) p :=
  br_c (fun _ => H) (fun h1 => br_t (h.resolve_left h1) H)
/-! readPartial -/
theorem zq_parE (h : t ≤ i) (H : post 0 (t, i, mj, mn, dg, lo, hi, il, ih, mc, a1, a2, a3, a4, a5, a6, a7, a8)) : wpX_readPartial post (t, i, mj, mn, dg, lo, hi, il, ih, mc, a1, a2, a3, a4, a5, a6, a7, a8) := br_t h H
theorem zq_parN (h : a1 0 < 48 ∨ 57 < a1 0) (H : post 0 (1, 0, mj, mn, dg, lo, hi, il, ih, mc, a1, a2, a3, a4, a5, a6, a7, a8)) : wpX_readPartial post (1, 0, mj, mn, dg, lo, hi, il, ih, mc, a1, a2, a3, a4, a5, a6, a7, a8) :=
  br_f (by decide) ⟨zq_in0 (by decide), zq_digN h (br_t rfl H)⟩
theorem zq_parD (h1 : ¬ a1 0 < 48) (h2 : ¬ 57 < a1 0) (H : post 1 (1, 1, a1 0 - 48, 0, 1, 100 * (a1 0 - 48), 100 * (a1 0 - 48) + 99, il, ih, mc, a1, a2, a3, a4, a5, a6, a7, a8)) : wpX_readPartial post (1, 0, mj, mn, dg, lo, hi, il, ih, mc, a1, a2, a3, a4, a5, a6, a7, a8) :=
  br_f (by decide) ⟨zq_in0 (by decide), zq_digY h1 h2 (br_f (by decide) ⟨zq_in0 (by decide), nm_e (nm_r (e' := 1) (by decide) (nm_e (nm_e (zq_passE (by decide) (br_t rfl H)))))⟩)⟩
/-! the four signs that want a version behind them, at the text's end -/
theorem zq_bndE (H : post 0 (1, 1, mj, mn, dg, lo, hi, il, ih, mc, a1, a2, a3, a4, a5, a6, a7, a8)) : wpX_readBound post (1, 1, mj, mn, dg, lo, hi, il, ih, mc, a1, a2, a3, a4, a5, a6, a7, a8) p := by
  unfold wpX_readBound
  refine zq_passE (by decide) ?_
  exact zq_parE (by decide) (br_t rfl H)
theorem zq_carE (H : post 0 (1, 1, mj, mn, dg, lo, hi, il, ih, mc, a1, a2, a3, a4, a5, a6, a7, a8)) : wpX_readCaret post (1, 1, mj, mn, dg, lo, hi, il, ih, mc, a1, a2, a3, a4, a5, a6, a7, a8) := by
  unfold wpX_readCaret
  exact zq_parE (by decide) (br_t rfl H)
theorem zq_tilE (H : post 0 (1, 1, mj, mn, dg, lo, hi, il, ih, mc, a1, a2, a3, a4, a5, a6, a7, a8)) : wpX_readTilde post (1, 1, mj, mn, dg, lo, hi, il, ih, mc, a1, a2, a3, a4, a5, a6, a7, a8) := by
  unfold wpX_readTilde
  exact zq_parE (by decide) (br_t rfl H)
/-! readItem: no text; a star; a digit; another letter -/
theorem zq_itemE (H : post 0 (0, 0, mj, mn, dg, lo, hi, 0, 999, mc, a1, a2, a3, a4, a5, a6, a7, a8)) : wpX_readItem post (0, 0, mj, mn, dg, lo, hi, il, ih, mc, a1, a2, a3, a4, a5, a6, a7, a8) := by
  unfold wpX_readItem
  exact zq_passE (by decide) (br_t rfl (zq_passE (by decide) (br_t rfl (zq_passE (by decide) (br_t rfl (zq_passE (by decide) (br_t rfl (zq_passE (by decide) (br_t rfl (zq_parE (by decide) (br_t rfl H)))))))))))
theorem zq_itemS (h : a1 0 = 42) (H : post 1 (1, 1, mj, mn, dg, lo, hi, 0, 999, mc, a1, a2, a3, a4, a5, a6, a7, a8)) : wpX_readItem post (1, 0, mj, mn, dg, lo, hi, il, ih, mc, a1, a2, a3, a4, a5, a6, a7, a8) := by
  unfold wpX_readItem
  exact zq_passY h (br_f (by decide) H)
theorem zq_itemD (h1 : ¬ a1 0 < 48) (h2 : ¬ 57 < a1 0) (H : post 1 (1, 1, a1 0 - 48, 0, 1, 100 * (a1 0 - 48), 100 * (a1 0 - 48) + 99, 100 * (a1 0 - 48), 100 * (a1 0 - 48) + 99, mc, a1, a2, a3, a4, a5, a6, a7, a8)) : wpX_readItem post (1, 0, mj, mn, dg, lo, hi, il, ih, mc, a1, a2, a3, a4, a5, a6, a7, a8) := by
  have n42 : ¬ a1 0 = 42 := fun e => h1 (by rw [e]; decide)
  have n60 : ¬ a1 0 = 60 := fun e => h2 (by rw [e]; decide)
  have n62 : ¬ a1 0 = 62 := fun e => h2 (by rw [e]; decide)
  have n94 : ¬ a1 0 = 94 := fun e => h2 (by rw [e]; decide)
  have n126 : ¬ a1 0 = 126 := fun e => h2 (by rw [e]; decide)
  unfold wpX_readItem
  exact zq_passN n42 (br_t rfl (zq_passN n60 (br_t rfl (zq_passN n62 (br_t rfl (zq_passN n94 (br_t rfl (zq_passN n126 (br_t rfl (zq_parD h1 h2 (br_f (by decide) (zq_passE (by decide) (br_t rfl H)))))))))))))
theorem zq_itemB (n42 : ¬ a1 0 = 42) (h : a1 0 < 48 ∨ 57 < a1 0) (H : ∀ j, post 0 (1, j, mj, mn, dg, lo, hi, 0, 999, mc, a1, a2, a3, a4, a5, a6, a7, a8)) : wpX_readItem post (1, 0, mj, mn, dg, lo, hi, il, ih, mc, a1, a2, a3, a4, a5, a6, a7, a8) := by
  unfold wpX_readItem
  refine zq_passN n42 (br_t rfl ?_)
  by_cases n60 : a1 0 = 60
  · exact zq_passY n60 (br_f (by decide) (zq_bndE ⟨rfl, H 1⟩))
  refine zq_passN n60 (br_t rfl ?_)
  by_cases n62 : a1 0 = 62
  · exact zq_passY n62 (br_f (by decide) (zq_bndE ⟨rfl, H 1⟩))
  refine zq_passN n62 (br_t rfl ?_)
  by_cases n94 : a1 0 = 94
  · exact zq_passY n94 (br_f (by decide) (zq_carE ⟨rfl, H 1⟩))
  refine zq_passN n94 (br_t rfl ?_)
  by_cases n126 : a1 0 = 126
  · exact zq_passY n126 (br_f (by decide) (zq_tilE ⟨rfl, H 1⟩))
  exact zq_passN n126 (br_t rfl (zq_parN h (br_t rfl (H 0))))
end
end
section
section
variable {post : Int32 → St2 → Prop} {t i mj mn dg lo hi il ih mc : Int32} {a1 a2 a3 a4 a5 a6 a7 a8 : Nat → Int32} {p : Int32}
/-- what is used of a range's number -/
def zq_R (r : Int32) : Prop := ¬ r < 0 ∧ ¬ 3 < r ∧ r ≤ 3 ∧ vp_in r 4 ∧ vp_in (24 * r) 96 ∧ ¬ 24 * r + 1 ≤ 24 * r ∧ (24 * r + (24 * r + 1)) / 2 = 24 * r ∧ ¬ 24 * r < 0 ∧ ¬ 24 * r = 24 * r + 1
theorem zq_R_of {r : Int32} (h0 : ¬ r < 0) (h3 : ¬ 3 < r) : zq_R r := by
  obtain ⟨j, hj, rfl⟩ := nI_of2 (M := 3) (n := 3) (by decide) h0 (Int32.not_lt.mp h3)
  have c : j = 0 ∨ j = 1 ∨ j = 2 ∨ j = 3 := by omega
  rcases c with rfl | rfl | rfl | rfl
  all_goals exact ⟨by decide, by decide, by decide, vp_in_iff.mpr (by decide), vp_in_iff.mpr (by decide), by decide, by decide, by decide, by decide⟩
theorem zq_clF (item : ∀ Q : Int32 → St2 → Prop, (∀ j, Q 0 (t, j, mj, mn, dg, lo, hi, 0, 999, mc, a1, a2, a3, a4, a5, a6, a7, a8)) → wpX_readItem Q (t, i, mj, mn, dg, lo, hi, il, ih, mc, a1, a2, a3, a4, a5, a6, a7, a8)) (H : ∀ j, post 0 (t, j, mj, mn, dg, lo, hi, 0, 999, mc, a1, a2, a3, a4, a5, a6, a7, a8)) : wpX_readClause post (t, i, mj, mn, dg, lo, hi, il, ih, mc, a1, a2, a3, a4, a5, a6, a7, a8) :=
  ⟨0 + 1, br_f (by decide) (item _ (fun j => br_t rfl (H j)))⟩
theorem zq_rangeF (item : ∀ Q : Int32 → St2 → Prop, (∀ j, Q 0 (t, j, mj, mn, dg, lo, hi, 0, 999, 0, a1, a2, a3, a4, a5, a6, a7, a8)) → wpX_readItem Q (t, 0, mj, mn, dg, lo, hi, il, ih, 0, a1, a2, a3, a4, a5, a6, a7, a8)) (H : ∀ j, post 0 (t, j, mj, mn, dg, lo, hi, 0, 999, 0, a1, a2, a3, a4, a5, a6, a7, a8)) : wpX_readRange post (t, i, mj, mn, dg, lo, hi, il, ih, mc, a1, a2, a3, a4, a5, a6, a7, a8) :=
  ⟨0 + 1, br_f (by decide) (zq_clF item (fun j => br_t rfl (H j)))⟩
theorem zq_unite {Q : St2 → Prop} {L M : Int32} (h : L ≤ M) (hL : L.toInt16.toInt32 = L) (hM : M.toInt16.toInt32 = M) (H : ∀ b5 b6 b7 b8, b5 0 = L → b6 0 = M → Q (t, i, mj, mn, dg, lo, hi, il, ih, 1, a1, a2, a3, a4, b5, b6, b7, b8)) : wpX_unite Q (t, i, mj, mn, dg, lo, hi, il, ih, 0, a1, a2, a3, a4, a5, a6, a7, a8) L M := by
  have e5 : upd a5 0 (vp_nar .short (upd a7 0 L.toInt16.toInt32 0)) 0 = L := by rw [pk_us, pk_us, hL, vp_nar_short, hL]
  have e6 : upd a6 0 (vp_nar .short (upd a8 0 M.toInt16.toInt32 0)) 0 = M := by rw [pk_us, pk_us, hM, vp_nar_short, hM]
  have i0 : vp_in 0 64 := zq_in0 (by decide)
  exact br_t h ⟨0 + 1, br_t (by decide) (br_t rfl ⟨i0, nm_e ⟨i0, nm_e (nm_r (e' := 1) (by decide) ⟨0 + 1 + 1, br_f (by decide) ⟨i0, i0, nm_e ⟨i0, i0, nm_e (nm_r (e' := 1) (by decide) (br_t (by decide) (H _ _ _ _ e5 e6)))⟩⟩⟩)⟩⟩)⟩
theorem zq_34 {J : Int32 → Int32 → Int32 → Int32 → Int32 → Int32 → Int32 → Int32 → Int32 → Int32 → Int32 → Int32 → Int32 → (Nat → Int32) → (Nat → Int32) → (Nat → Int32) → (Nat → Int32) → (Nat → Int32) → (Nat → Int32) → (Nat → Int32) → (Nat → Int32) → Prop} {L M : Int32} (h9 : M ≤ 999) (H : J L M 0 1 1 mj mn dg lo hi il M mc a1 a2 a3 a4 a5 a6 a7 a8) : wX_readClause_34 post J L 999 1 1 mj mn dg lo hi il M mc a1 a2 a3 a4 a5 a6 a7 a8 := by
  refine br_c (fun z => ?_) (fun _ => ?_)
  · have e : M = 999 := Int32.le_antisymm h9 z
    subst e
    unfold wX_readClause_47
    exact zq_passE (by decide) H
  · unfold wX_readClause_47
    exact zq_passE (by decide) H
theorem zq_clT {L M : Int32} (h0 : 0 ≤ L) (h9 : M ≤ 999) (h : L ≤ M) (hL : L.toInt16.toInt32 = L) (hM : M.toInt16.toInt32 = M)
    (item : ∀ Q : Int32 → St2 → Prop, (∀ mj mn dg lo hi, Q 1 (1, 1, mj, mn, dg, lo, hi, L, M, 0, a1, a2, a3, a4, a5, a6, a7, a8)) → wpX_readItem Q (1, 0, mj, mn, dg, lo, hi, il, ih, 0, a1, a2, a3, a4, a5, a6, a7, a8))
    (H : ∀ mj mn dg lo hi b5 b6 b7 b8, b5 0 = L → b6 0 = M → post 1 (1, 1, mj, mn, dg, lo, hi, L, M, 1, a1, a2, a3, a4, b5, b6, b7, b8)) : wpX_readClause post (1, 0, mj, mn, dg, lo, hi, il, ih, 0, a1, a2, a3, a4, a5, a6, a7, a8) := by
  refine ⟨0 + 1 + 1, br_f (by decide) (item _ (fun mj mn dg lo hi => br_f (by decide) ?_))⟩
  have T : wX_readClause_8 post (0 + 1) L M 0 1 1 mj mn dg lo hi L M 0 a1 a2 a3 a4 a5 a6 a7 a8 := br_t rfl (zq_unite h hL hM (fun b5 b6 b7 b8 e5 e6 => H mj mn dg lo hi b5 b6 b7 b8 e5 e6))
  refine br_c (fun z => ?_) (fun _ => zq_34 h9 T)
  have e : L = 0 := Int32.le_antisymm z h0
  subst e
  exact zq_34 h9 T
theorem zq_rangeT {L M : Int32} (h0 : 0 ≤ L) (h9 : M ≤ 999) (h : L ≤ M) (hL : L.toInt16.toInt32 = L) (hM : M.toInt16.toInt32 = M)
    (item : ∀ Q : Int32 → St2 → Prop, (∀ mj mn dg lo hi, Q 1 (1, 1, mj, mn, dg, lo, hi, L, M, 0, a1, a2, a3, a4, a5, a6, a7, a8)) → wpX_readItem Q (1, 0, mj, mn, dg, lo, hi, il, ih, 0, a1, a2, a3, a4, a5, a6, a7, a8))
    (H : ∀ mj mn dg lo hi b5 b6 b7 b8, b5 0 = L → b6 0 = M → post 1 (1, 1, mj, mn, dg, lo, hi, L, M, 1, a1, a2, a3, a4, b5, b6, b7, b8)) : wpX_readRange post (1, i, mj, mn, dg, lo, hi, il, ih, mc, a1, a2, a3, a4, a5, a6, a7, a8) :=
  ⟨0 + 1 + 1, br_f (by decide) (zq_clT h0 h9 h hL hM item (fun mj mn dg lo hi b5 b6 b7 b8 e5 e6 => br_f (by decide) (zq_passE (by decide) (br_t rfl (br_t rfl (H mj mn dg lo hi b5 b6 b7 b8 e5 e6))))))⟩
theorem zq_keep {r : Int32} (R : zq_R r) (H : ∀ b3 b4, b3 (24 * r).toNatClampNeg = vp_nar .short (a5 0) → b4 (24 * r).toNatClampNeg = vp_nar .short (a6 0) → post 1 (t, i, mj, mn, dg, lo, hi, il, ih, 1, a1, upd a2 r.toNatClampNeg 1, b3, b4, a5, a6, a7, a8)) : wpX_keep post (t, i, mj, mn, dg, lo, hi, il, ih, 1, a1, a2, a3, a4, a5, a6, a7, a8) r := by
  have i0 : vp_in 0 64 := zq_in0 (by decide)
  have z : 24 * r + 0 = 24 * r := Int32.add_zero _
  have i1 : vp_in (24 * r + 0) 96 := by rw [z]; exact R.2.2.2.2.1
  have e3 : upd a3 (24 * r + 0).toNatClampNeg (vp_nar .short (a5 0)) (24 * r).toNatClampNeg = vp_nar .short (a5 0) := by rw [z, pk_us]
  have e4 : upd a4 (24 * r + 0).toNatClampNeg (vp_nar .short (a6 0)) (24 * r).toNatClampNeg = vp_nar .short (a6 0) := by rw [z, pk_us]
  exact ⟨0 + 1 + 1, br_f (by decide) ⟨i0, i1, nm_e ⟨i0, i1, nm_e (nm_r (e' := 1) (by decide) (br_t (by decide) ⟨R.2.2.2.1, nm_e (H _ _ e3 e4)⟩))⟩⟩⟩
end
end
section
section
variable {Q : Int32 → Prop} {t i mj mn dg lo hi il ih mc : Int32} {a1 a2 a3 a4 a5 a6 a7 a8 : Nat → Int32} {q v L M : Int32}
theorem zq_rgN {u : St2} (h : q < 0 ∨ 3 < q) (H : Q 0) : wpX_isRange Q u q := by
  obtain ⟨t, i, mj, mn, dg, lo, hi, il, ih, mc, a1, a2, a3, a4, a5, a6, a7, a8⟩ := u
  exact br_c (fun _ => H) (fun h1 => br_t (h.resolve_left h1) H)
theorem zq_rgY {u : St2} (R : zq_R q) (H : Q 1) : wpX_isRange Q u q := by
  obtain ⟨t, i, mj, mn, dg, lo, hi, il, ih, mc, a1, a2, a3, a4, a5, a6, a7, a8⟩ := u
  exact br_f R.1 (br_f R.2.1 H)
/-! count: no such range; an empty range; one stretch -/
theorem zq_cntN (h : q < 0 ∨ 3 < q) (H : Q (-1)) : wpX_count Q (t, i, mj, mn, dg, lo, hi, il, ih, mc, a1, a2, a3, a4, a5, a6, a7, a8) q := by
  unfold wpX_count
  exact zq_rgN h (br_t rfl H)
theorem zq_cnt0 (R : zq_R q) (e : a2 q.toNatClampNeg = 0) (H : Q 0) : wpX_count Q (t, i, mj, mn, dg, lo, hi, il, ih, mc, a1, a2, a3, a4, a5, a6, a7, a8) q := by
  have z : 24 * q + a2 q.toNatClampNeg ≤ 24 * q := by rw [e, Int32.add_zero]; exact Int32.le_refl _
  unfold wpX_count
  exact zq_rgY R (br_f (by decide) (nm_e ⟨0 + 1, R.2.2.2.1, br_t z H⟩))
theorem zq_cnt1 (R : zq_R q) (e : a2 q.toNatClampNeg = 1) (eL : a3 (24 * q).toNatClampNeg = L) (eM : a4 (24 * q).toNatClampNeg = M) (H : Q (M - L + 1)) : wpX_count Q (t, i, mj, mn, dg, lo, hi, il, ih, mc, a1, a2, a3, a4, a5, a6, a7, a8) q := by
  have z : ¬ 24 * q + a2 q.toNatClampNeg ≤ 24 * q := by rw [e]; exact R.2.2.2.2.2.1
  have y : 24 * q + a2 q.toNatClampNeg ≤ 24 * q + 1 := by rw [e]; exact Int32.le_refl _
  have s : 0 + (a4 (24 * q).toNatClampNeg - a3 (24 * q).toNatClampNeg + 1) = M - L + 1 := by rw [eL, eM, Int32.zero_add]
  unfold wpX_count
  exact zq_rgY R (br_f (by decide) (nm_e ⟨0 + 1 + 1, R.2.2.2.1, br_f z ⟨R.2.2.2.2.1, R.2.2.2.2.1, nm_r s (nm_e ⟨R.2.2.2.1, br_t y H⟩)⟩⟩))
/-! has -/
theorem zq_hasN (h : q < 0 ∨ 3 < q) (H : Q 0) : wpX_has Q (t, i, mj, mn, dg, lo, hi, il, ih, mc, a1, a2, a3, a4, a5, a6, a7, a8) q v := by
  unfold wpX_has
  exact zq_rgN h (br_t rfl H)
theorem zq_has0 (R : zq_R q) (e : a2 q.toNatClampNeg = 0) (H : Q 0) : wpX_has Q (t, i, mj, mn, dg, lo, hi, il, ih, mc, a1, a2, a3, a4, a5, a6, a7, a8) q v := by
  have z : 24 * q + a2 q.toNatClampNeg ≤ 24 * q := by rw [e, Int32.add_zero]; exact Int32.le_refl _
  have y : 24 * q = 24 * q + a2 q.toNatClampNeg := by rw [e, Int32.add_zero]
  unfold wpX_has
  exact zq_rgY R (br_f (by decide) (br_c (fun _ => H) (fun _ => br_c (fun _ => nm_e ⟨R.2.2.2.1, nm_e ⟨0 + 1, br_t z ⟨R.2.2.2.1, br_t y (br_t (by decide) H)⟩⟩⟩) (fun _ => H))))
theorem zq_has1 (R : zq_R q) (e : a2 q.toNatClampNeg = 1) (eL : a3 (24 * q).toNatClampNeg = L) (eM : a4 (24 * q).toNatClampNeg = M) (h0 : 0 ≤ L) (h9 : M ≤ 999)
    (H1 : L ≤ v → v ≤ M → Q 1) (H0 : ¬ (L ≤ v ∧ v ≤ M) → Q 0) : wpX_has Q (t, i, mj, mn, dg, lo, hi, il, ih, mc, a1, a2, a3, a4, a5, a6, a7, a8) q v := by
  have z : ¬ 24 * q + a2 q.toNatClampNeg ≤ 24 * q := by rw [e]; exact R.2.2.2.2.2.1
  have y : 24 * q + a2 q.toNatClampNeg ≤ 24 * q + 1 := by rw [e]; exact Int32.le_refl _
  have x : ¬ 24 * q = 24 * q + a2 q.toNatClampNeg := by rw [e]; exact R.2.2.2.2.2.2.2.2
  have w : 24 * q + 1 = 24 * q + a2 q.toNatClampNeg := by rw [e]
  have m : (24 * q + (24 * q + a2 q.toNatClampNeg)) / 2 = 24 * q := by rw [e]; exact R.2.2.2.2.2.2.1
  have n0 : v < 0 → ¬ (L ≤ v ∧ v ≤ M) := fun a b => absurd (Int32.lt_of_le_of_lt (Int32.le_trans h0 b.1) a) (Int32.lt_irrefl)
  have n9 : ¬ v ≤ 999 → ¬ (L ≤ v ∧ v ≤ M) := fun a b => a (Int32.le_trans b.2 h9)
  unfold wpX_has
  refine zq_rgY R (br_f (by decide) (br_c (fun a => H0 (n0 a)) (fun _ => br_c (fun _ => nm_e ⟨R.2.2.2.1, nm_e ⟨0 + 1 + 1, br_f z ⟨by decide, nm_r m ⟨R.2.2.2.2.1, ?_⟩⟩⟩⟩) (fun a => H0 (n9 a)))))
  rw [eM]
  refine br_c (fun b => br_t (Int32.le_refl _) ⟨R.2.2.2.1, br_f x ⟨R.2.2.2.2.1, ?_⟩⟩) (fun b => nm_e (br_t y ⟨R.2.2.2.1, br_t w (br_t (by decide) (H0 (fun c => b c.2)))⟩))
  rw [eL]
  exact br_c (fun c => br_f R.2.2.2.2.2.2.2.1 (H1 c b)) (fun c => br_t (by decide) (H0 (fun d => c d.1)))
/-! atLeast -/
theorem zq_atN (h : q < 0 ∨ 3 < q) (H : Q (-1)) : wpX_atLeast Q (t, i, mj, mn, dg, lo, hi, il, ih, mc, a1, a2, a3, a4, a5, a6, a7, a8) q v := by
  unfold wpX_atLeast
  exact zq_rgN h (br_t rfl H)
theorem zq_at0 (R : zq_R q) (e : a2 q.toNatClampNeg = 0) (H : Q (-3)) : wpX_atLeast Q (t, i, mj, mn, dg, lo, hi, il, ih, mc, a1, a2, a3, a4, a5, a6, a7, a8) q v := by
  have z : 24 * q + a2 q.toNatClampNeg ≤ 24 * q := by rw [e, Int32.add_zero]; exact Int32.le_refl _
  unfold wpX_atLeast
  exact zq_rgY R (br_f (by decide) (nm_e ⟨0 + 1, R.2.2.2.1, br_t z H⟩))
theorem zq_at1 (R : zq_R q) (e : a2 q.toNatClampNeg = 1) (eL : a3 (24 * q).toNatClampNeg = L) (eM : a4 (24 * q).toNatClampNeg = M)
    (H3 : ¬ v ≤ M → Q (-3)) (Hv : v ≤ M → L ≤ v → Q v) (HL : v ≤ M → ¬ L ≤ v → Q L) : wpX_atLeast Q (t, i, mj, mn, dg, lo, hi, il, ih, mc, a1, a2, a3, a4, a5, a6, a7, a8) q v := by
  have z : ¬ 24 * q + a2 q.toNatClampNeg ≤ 24 * q := by rw [e]; exact R.2.2.2.2.2.1
  have y : 24 * q + a2 q.toNatClampNeg ≤ 24 * q + 1 := by rw [e]; exact Int32.le_refl _
  unfold wpX_atLeast
  refine zq_rgY R (br_f (by decide) (nm_e ⟨0 + 1 + 1, R.2.2.2.1, br_f z ⟨R.2.2.2.2.1, ?_⟩⟩))
  rw [eL, eM]
  exact br_c (fun b => nm_e ⟨R.2.2.2.1, br_t y (H3 (Int32.not_le.mpr b))⟩) (fun b => ⟨R.2.2.2.2.1, br_c (fun c => Hv (Int32.not_lt.mp b) c) (fun c => ⟨R.2.2.2.2.1, HL (Int32.not_lt.mp b) c⟩)⟩)
end
section
variable {post : Int32 → St2 → Prop} {t i mj mn dg lo hi il ih mc : Int32} {a1 a2 a3 a4 a5 a6 a7 a8 : Nat → Int32} {r L M : Int32}
/-! read: no such range; a text that says nothing; a text that says an interval -/
theorem zq_readN (h : r < 0 ∨ 3 < r) (H : post (-1) (t, i, mj, mn, dg, lo, hi, il, ih, mc, a1, a2, a3, a4, a5, a6, a7, a8)) : wpX_read post (t, i, mj, mn, dg, lo, hi, il, ih, mc, a1, a2, a3, a4, a5, a6, a7, a8) r := by
  unfold wpX_read
  exact zq_rgN h (br_t rfl H)
theorem zq_readF (R : zq_R r) (item : ∀ Q : Int32 → St2 → Prop, (∀ j, Q 0 (t, j, mj, mn, dg, lo, hi, 0, 999, 0, a1, a2, a3, a4, a5, a6, a7, a8)) → wpX_readItem Q (t, 0, mj, mn, dg, lo, hi, il, ih, 0, a1, a2, a3, a4, a5, a6, a7, a8)) (H : ∀ j, post (-3) (t, j, mj, mn, dg, lo, hi, 0, 999, 0, a1, a2, a3, a4, a5, a6, a7, a8)) : wpX_read post (t, i, mj, mn, dg, lo, hi, il, ih, mc, a1, a2, a3, a4, a5, a6, a7, a8) r := by
  unfold wpX_read
  exact zq_rgY R (br_f (by decide) (zq_rangeF item (fun j => br_t rfl (H j))))
theorem zq_readT (R : zq_R r) (h0 : 0 ≤ L) (h9 : M ≤ 999) (h : L ≤ M) (hL : L.toInt16.toInt32 = L) (hM : M.toInt16.toInt32 = M)
    (item : ∀ Q : Int32 → St2 → Prop, (∀ mj mn dg lo hi, Q 1 (1, 1, mj, mn, dg, lo, hi, L, M, 0, a1, a2, a3, a4, a5, a6, a7, a8)) → wpX_readItem Q (1, 0, mj, mn, dg, lo, hi, il, ih, 0, a1, a2, a3, a4, a5, a6, a7, a8))
    (H : ∀ mj mn dg lo hi b3 b4 b5 b6 b7 b8, b3 (24 * r).toNatClampNeg = L → b4 (24 * r).toNatClampNeg = M → post (M - L + 1) (0, 1, mj, mn, dg, lo, hi, L, M, 1, a1, upd a2 r.toNatClampNeg 1, b3, b4, b5, b6, b7, b8)) : wpX_read post (1, i, mj, mn, dg, lo, hi, il, ih, mc, a1, a2, a3, a4, a5, a6, a7, a8) r := by
  unfold wpX_read
  refine zq_rgY R (br_f (by decide) (zq_rangeT h0 h9 h hL hM item (fun mj mn dg lo hi b5 b6 b7 b8 e5 e6 => br_f (by decide) (zq_keep R (fun b3 b4 e3 e4 => ?_)))))
  have f3 : b3 (24 * r).toNatClampNeg = L := by rw [e3, e5, vp_nar_short, hL]
  have f4 : b4 (24 * r).toNatClampNeg = M := by rw [e4, e6, vp_nar_short, hM]
  exact zq_cnt1 R pk_us f3 f4 (H mj mn dg lo hi b3 b4 b5 b6 b7 b8 f3 f4)
end
end
section
section
variable {post : Int32 → St0 → Prop} {cm cs kc ks : Nat} {x1 q v x6 x7 x8 L M : Int32} {t i mj mn dg lo hi il ih mc : Int32} {a1 a2 a3 a4 a5 a6 a7 a8 : Nat → Int32}
/-! the law behind its first count: the range asked is empty or isn't there -/
theorem zq_E (e : zq_R q → a2 q.toNatClampNeg = 0) (W : ∀ z, wL_lawOf_407 post cm cs x6 x7 x8 z z kc ks t i mj mn dg lo hi il ih mc a1 a2 a3 a4 a5 a6 a7 a8) : wL_lawOf_279 post cm cs q v x6 x7 x8 L M 0 kc ks t i mj mn dg lo hi il ih mc a1 a2 a3 a4 a5 a6 a7 a8 := by
  by_cases h0 : q < 0
  · have N : q < 0 ∨ 3 < q := Or.inl h0
    unfold wL_lawOf_279
    exact zq_cntN N (br_t h0 (br_t rfl (zq_hasN N (br_t rfl (br_t rfl (br_t rfl (by unfold wL_lawOf_366 wL_lawOf_383; exact zq_atN N (br_t h0 (W _)))))))))
  by_cases h3 : 3 < q
  · have N : q < 0 ∨ 3 < q := Or.inr h3
    have n3 : ¬ q ≤ 3 := Int32.not_le.mpr h3
    unfold wL_lawOf_279
    exact zq_cntN N (br_f h0 (br_f n3 (br_t rfl (zq_hasN N (br_t rfl (br_t rfl (br_t rfl (by unfold wL_lawOf_366 wL_lawOf_383; exact zq_atN N (br_f h0 (br_f n3 (W _)))))))))))
  have R : zq_R q := zq_R_of h0 h3
  have l3 : q ≤ 3 := R.2.2.1
  unfold wL_lawOf_279
  exact zq_cnt0 R (e R) (br_f h0 (br_t l3 (br_t rfl (br_t rfl (zq_has0 R (e R) (br_t rfl (br_t rfl (br_t rfl (by unfold wL_lawOf_366 wL_lawOf_383; exact zq_at0 R (e R) (br_f h0 (br_t l3 (W _))))))))))))
theorem zq_F350 (R : zq_R q) (e : a2 q.toNatClampNeg = 1) (eL : a3 (24 * q).toNatClampNeg = L) (eM : a4 (24 * q).toNatClampNeg = M) (z : Int32) (W : ∀ z, wL_lawOf_407 post cm cs x6 x7 x8 z z kc ks t i mj mn dg lo hi il ih mc a1 a2 a3 a4 a5 a6 a7 a8) : wL_lawOf_350 post cm cs q v x6 x7 x8 L M 1 z z kc ks t i mj mn dg lo hi il ih mc a1 a2 a3 a4 a5 a6 a7 a8 :=
  br_t rfl (br_f (by decide) (br_c
    (fun a => br_c (fun b => zq_at1 R e eL eM (fun c => absurd a c) (fun _ _ => br_f R.1 (br_t R.2.2.1 (W _))) (fun _ c => absurd b c))
      (fun b => zq_at1 R e eL eM (fun c => absurd a c) (fun _ c => absurd c b) (fun _ _ => br_f R.1 (br_t R.2.2.1 (W _)))))
    (fun a => by unfold wL_lawOf_366 wL_lawOf_383; exact zq_at1 R e eL eM (fun _ => br_f R.1 (br_t R.2.2.1 (W _))) (fun c _ => absurd c a) (fun c _ => absurd c a))))
theorem zq_F (R : zq_R q) (e : a2 q.toNatClampNeg = 1) (eL : a3 (24 * q).toNatClampNeg = L) (eM : a4 (24 * q).toNatClampNeg = M) (h0 : 0 ≤ L) (h9 : M ≤ 999) (W : ∀ z, wL_lawOf_407 post cm cs x6 x7 x8 z z kc ks t i mj mn dg lo hi il ih mc a1 a2 a3 a4 a5 a6 a7 a8) : wL_lawOf_279 post cm cs q v x6 x7 x8 L M 1 kc ks t i mj mn dg lo hi il ih mc a1 a2 a3 a4 a5 a6 a7 a8 :=
  zq_cnt1 R e eL eM (br_f R.1 (br_t R.2.2.1 (br_f (by decide) (br_t rfl (zq_has1 R e eL eM h0 h9
    (fun a b => br_f (by decide) (br_f (Int32.not_lt.mpr a) (br_f (Int32.not_lt.mpr b) (zq_F350 R e eL eM 1 W))))
    (fun a => br_f (by decide) (br_c (fun _ => zq_F350 R e eL eM 0 W) (fun b => br_c (fun _ => zq_F350 R e eL eM 0 W) (fun c => absurd ⟨Int32.not_lt.mp b, Int32.not_lt.mp c⟩ a)))))))))
/-! the law's last check -/
theorem zq_W1 (e : x6 = 1) (h : x7 = 0 ∨ x8 = 0) (et : t = 1) (P : post 1 ()) (z : Int32) : wL_lawOf_407 post cm cs x6 x7 x8 z z kc ks t i mj mn dg lo hi il ih mc a1 a2 a3 a4 a5 a6 a7 a8 := by
  subst e et
  refine br_t rfl (br_f (by decide) (br_c (fun _ => br_t rfl P) (fun a => br_t (h.resolve_left a) (br_t rfl P))))
theorem zq_W2 (e : x6 = 0) (et : t = 0) (P : post 1 ()) (z : Int32) : wL_lawOf_407 post cm cs x6 x7 x8 z z kc ks t i mj mn dg lo hi il ih mc a1 a2 a3 a4 a5 a6 a7 a8 := by
  subst e et
  exact br_t rfl (br_t rfl (br_t rfl P))
theorem zq_W3 (e6 : x6 = 1) (e7 : x7 = 1) (e8 : x8 = 1) (et : t = 0) (P : post 1 ()) (z : Int32) : wL_lawOf_407 post cm cs x6 x7 x8 z z kc ks t i mj mn dg lo hi il ih mc a1 a2 a3 a4 a5 a6 a7 a8 := by
  subst e6 e7 e8 et
  exact br_t rfl (br_f (by decide) (br_f (by decide) (br_f (by decide) (br_t rfl P))))
end
section
variable {post : Int32 → St2 → Prop} {t i mj mn dg lo hi il ih mc : Int32} {a1 a2 a3 a4 a5 a6 a7 a8 : Nat → Int32} {k : Int32}
/-- the letters other than digits -/
def zq_K (k : Int32) : Prop := k = 32 ∨ k = 42 ∨ k = 46 ∨ k = 124 ∨ k = 60 ∨ k = 62 ∨ k = 61 ∨ k = 94 ∨ k = 126 ∨ k = 45
def zq_D (k : Int32) : Prop := ¬ k < 48 ∧ ¬ 57 < k
theorem zq_nD (h : ¬ zq_D k) : k < 48 ∨ 57 < k := by
  by_cases a : k < 48
  · exact Or.inl a
  · by_cases b : 57 < k
    · exact Or.inr b
    · exact absurd ⟨a, b⟩ h
theorem zq_ty85 (hn : vp_nar .char k = k) (H : ∀ b, b 0 = k → post 1 (1, i, mj, mn, dg, lo, hi, il, ih, mc, b, a2, a3, a4, a5, a6, a7, a8)) : wX_type_80 post k 0 i mj mn dg lo hi il ih mc a1 a2 a3 a4 a5 a6 a7 a8 :=
  br_f (by decide) ⟨zq_in0 (by decide), nm_e (nm_r (e' := 1) (by decide) (H _ (pk_us.trans hn)))⟩
theorem zq_typeD (hn : vp_nar .char k = k) (h : zq_D k) (H : ∀ b, b 0 = k → post 1 (1, i, mj, mn, dg, lo, hi, il, ih, mc, b, a2, a3, a4, a5, a6, a7, a8)) : wpX_type post (0, i, mj, mn, dg, lo, hi, il, ih, mc, a1, a2, a3, a4, a5, a6, a7, a8) k :=
  br_t (by decide) (zq_digY h.1 h.2 (br_f (by decide) (zq_ty85 hn H)))
theorem zq_typeK (hn : vp_nar .char k = k) (hd : ¬ zq_D k) (h : zq_K k) (H : ∀ b, b 0 = k → post 1 (1, i, mj, mn, dg, lo, hi, il, ih, mc, b, a2, a3, a4, a5, a6, a7, a8)) : wpX_type post (0, i, mj, mn, dg, lo, hi, il, ih, mc, a1, a2, a3, a4, a5, a6, a7, a8) k := by
  have T : wX_type_80 post k 0 i mj mn dg lo hi il ih mc a1 a2 a3 a4 a5 a6 a7 a8 := zq_ty85 hn H
  refine br_t (by decide) (zq_digN (zq_nD hd) (br_t rfl (br_c (fun _ => T) (fun n1 => br_c (fun _ => T) (fun n2 => br_c (fun _ => T) (fun n3 => br_c (fun _ => T) (fun n4 => br_c (fun _ => T) (fun n5 => br_c (fun _ => T) (fun n6 => br_c (fun _ => T) (fun n7 => br_c (fun _ => T) (fun n8 => br_c (fun _ => T) (fun n9 => br_c (fun _ => T) (fun n10 => ?_))))))))))))) 
  rcases h with h | h | h | h | h | h | h | h | h | h
  · exact absurd h n1
  · exact absurd h n2
  · exact absurd h n3
  · exact absurd h n4
  · exact absurd h n5
  · exact absurd h n6
  · exact absurd h n7
  · exact absurd h n8
  · exact absurd h n9
  · exact absurd h n10
theorem zq_typeU (hd : ¬ zq_D k) (h : ¬ zq_K k) (H : post (-1) (0, i, mj, mn, dg, lo, hi, il, ih, mc, a1, a2, a3, a4, a5, a6, a7, a8)) : wpX_type post (0, i, mj, mn, dg, lo, hi, il, ih, mc, a1, a2, a3, a4, a5, a6, a7, a8) k := by
  unfold zq_K at h
  simp only [not_or] at h
  obtain ⟨n1, n2, n3, n4, n5, n6, n7, n8, n9, n10⟩ := h
  exact br_t (by decide) (zq_digN (zq_nD hd) (br_t rfl (br_f n1 (br_f n2 (br_f n3 (br_f n4 (br_f n5 (br_f n6 (br_f n7 (br_f n8 (br_f n9 (br_f n10 (br_t rfl H)))))))))))))
end
end
section
section
variable {post : Int32 → St0 → Prop} {c k x1 q v x4 x5 x6 x7 x8 L M : Int32}
theorem zq_init {Q : St2 → Prop} (H : Q (0, 0, 0, 0, 0, 0, 0, 0, 0, 0, (fun _ => 0), (fun _ => 0), (fun _ => 0), (fun _ => 0), (fun _ => 0), (fun _ => 0), (fun _ => 0), (fun _ => 0))) : wpX_init Q 8 492 (0, 0, 0, 0, 0, 0, 0, 0, 0, 0) :=
  ⟨by decide, by decide, by decide, by decide, by decide, by decide, by decide, by decide, by decide, by decide, by decide, by decide, by decide, by decide, by decide, by decide, H⟩
/-! from the made object on: a text that says an interval; a text that says none; no text -/
theorem zq_189T (P : post 1 ()) (ty : ∀ Q : Int32 → St2 → Prop, (∀ b, b 0 = k → Q 1 (1, 0, 0, 0, 0, 0, 0, 0, 0, 0, b, (fun _ => 0), (fun _ => 0), (fun _ => 0), (fun _ => 0), (fun _ => 0), (fun _ => 0), (fun _ => 0))) → wpX_type Q (0, 0, 0, 0, 0, 0, 0, 0, 0, 0, (fun _ => 0), (fun _ => 0), (fun _ => 0), (fun _ => 0), (fun _ => 0), (fun _ => 0), (fun _ => 0), (fun _ => 0)) (c.toUInt32 % 65536).toInt32)
    (h0 : 0 ≤ L) (h9 : M ≤ 999) (h : L ≤ M) (hL : L.toInt16.toInt32 = L) (hM : M.toInt16.toInt32 = M)
    (item : ∀ (a1 a2 a3 a4 a5 a6 a7 a8 : Nat → Int32) (mj mn dg lo hi il ih : Int32) (Q : Int32 → St2 → Prop), a1 0 = k → (∀ mj mn dg lo hi, Q 1 (1, 1, mj, mn, dg, lo, hi, L, M, 0, a1, a2, a3, a4, a5, a6, a7, a8)) → wpX_readItem Q (1, 0, mj, mn, dg, lo, hi, il, ih, 0, a1, a2, a3, a4, a5, a6, a7, a8))
    (e7 : (x7 = 0 ∧ (x1 < 0 ∨ 3 < x1)) ∨ (x7 = 1 ∧ zq_R x1)) : wL_lawOf_189 post 150 2400 c x1 q v 1 x7 1 L M 0 0 := by
  refine ⟨by decide, by decide, 8, 492, by decide, by decide, zq_init (ty _ (fun b eb => br_f (by decide) (br_t rfl ?_)))⟩
  rcases e7 with ⟨rfl, N⟩ | ⟨rfl, R⟩
  · exact zq_readN N (br_t rfl (br_t rfl (br_t rfl (zq_E (fun _ => rfl) (zq_W1 rfl (Or.inl rfl) rfl P)))))
  · refine zq_readT R h0 h9 h hL hM (fun Q HQ => item _ _ _ _ _ _ _ _ _ _ _ _ _ _ _ Q eb HQ) (fun mj mn dg lo hi b3 b4 b5 b6 b7 b8 e3 e4 => br_f (by decide) (br_f (by decide) (br_t rfl (br_f (by decide) (br_f (by decide) ?_)))))
    refine br_c (fun e => ?_) (fun n => ?_)
    · subst e
      exact zq_F R pk_us e3 e4 h0 h9 (zq_W3 rfl rfl rfl rfl P)
    · refine zq_E (fun Rq => ?_) (zq_W3 rfl rfl rfl rfl P)
      obtain ⟨j, hj, rfl⟩ := vp_in_of R.2.2.2.1 (by decide)
      obtain ⟨j', hj', rfl⟩ := vp_in_of Rq.2.2.2.1 (by decide)
      rw [nI_clamp (by omega), nI_clamp (by omega)]
      exact pk_un (fun e => n (by rw [e]))
theorem zq_189B (P : post 1 ()) (ty : ∀ Q : Int32 → St2 → Prop, (∀ b, b 0 = k → Q 1 (1, 0, 0, 0, 0, 0, 0, 0, 0, 0, b, (fun _ => 0), (fun _ => 0), (fun _ => 0), (fun _ => 0), (fun _ => 0), (fun _ => 0), (fun _ => 0))) → wpX_type Q (0, 0, 0, 0, 0, 0, 0, 0, 0, 0, (fun _ => 0), (fun _ => 0), (fun _ => 0), (fun _ => 0), (fun _ => 0), (fun _ => 0), (fun _ => 0), (fun _ => 0)) (c.toUInt32 % 65536).toInt32)
    (n42 : ¬ k = 42) (hd : k < 48 ∨ 57 < k)
    (e7 : (x7 = 0 ∧ (x1 < 0 ∨ 3 < x1)) ∨ (x7 = 1 ∧ zq_R x1)) : wL_lawOf_189 post 150 2400 c x1 q v 1 x7 0 L M 0 0 := by
  refine ⟨by decide, by decide, 8, 492, by decide, by decide, zq_init (ty _ (fun b eb => br_f (by decide) (br_t rfl ?_)))⟩
  rcases e7 with ⟨rfl, N⟩ | ⟨rfl, R⟩
  · exact zq_readN N (br_t rfl (br_t rfl (br_t rfl (zq_E (fun _ => rfl) (zq_W1 rfl (Or.inl rfl) rfl P)))))
  · exact zq_readF R (fun Q HQ => zq_itemB (by rw [eb]; exact n42) (by rw [eb]; exact hd) HQ) (fun j => br_f (by decide) (br_t rfl (br_t rfl (br_f (by decide) (br_t rfl (zq_E (fun _ => rfl) (zq_W1 rfl (Or.inr rfl) rfl P)))))))
theorem zq_189U (P : post 1 ()) (ty : ∀ Q : Int32 → St2 → Prop, Q (-1) (0, 0, 0, 0, 0, 0, 0, 0, 0, 0, (fun _ => 0), (fun _ => 0), (fun _ => 0), (fun _ => 0), (fun _ => 0), (fun _ => 0), (fun _ => 0), (fun _ => 0)) → wpX_type Q (0, 0, 0, 0, 0, 0, 0, 0, 0, 0, (fun _ => 0), (fun _ => 0), (fun _ => 0), (fun _ => 0), (fun _ => 0), (fun _ => 0), (fun _ => 0), (fun _ => 0)) (c.toUInt32 % 65536).toInt32)
    (e7 : (x7 = 0 ∧ (x1 < 0 ∨ 3 < x1)) ∨ (x7 = 1 ∧ zq_R x1)) : wL_lawOf_189 post 150 2400 c x1 q v 0 x7 0 L M 0 0 := by
  refine ⟨by decide, by decide, 8, 492, by decide, by decide, zq_init (ty _ (br_t rfl (br_t rfl ?_)))⟩
  rcases e7 with ⟨rfl, N⟩ | ⟨rfl, R⟩
  · exact zq_readN N (br_t rfl (br_t rfl (br_t rfl (zq_E (fun _ => rfl) (zq_W2 rfl rfl P)))))
  · exact zq_readF R (fun Q HQ => zq_itemE (HQ 0)) (fun j => br_f (by decide) (br_t rfl (br_t rfl (br_f (by decide) (br_t rfl (zq_E (fun _ => rfl) (zq_W2 rfl rfl P)))))))
/-! the law's head: its five flags -/
theorem zq_117 (H : ∀ x7, ((x7 = 0 ∧ (x1 < 0 ∨ 3 < x1)) ∨ (x7 = 1 ∧ zq_R x1)) → wL_lawOf_133 post 150 2400 c x1 q v x4 x5 x6 x7 0 0) : wL_lawOf_117 post 150 2400 c x1 q v x4 x5 x6 0 0 :=
  br_c (fun a => H 0 (Or.inl ⟨rfl, Or.inl a⟩)) (fun a => br_c (fun b => H 0 (Or.inl ⟨rfl, Or.inr b⟩)) (fun b => H 1 (Or.inr ⟨rfl, zq_R_of a b⟩)))
theorem zq_23K (h : zq_K x4) (H : wL_lawOf_117 post 150 2400 c x1 q v x4 0 1 0 0) : wL_lawOf_23 post 150 2400 c x1 q v x4 0 0 0 := by
  have T : wL_lawOf_72 post 150 2400 c x1 q v x4 0 0 0 := br_f (by decide) H
  refine br_t rfl (br_c (fun _ => T) (fun n1 => br_c (fun _ => T) (fun n2 => br_c (fun _ => T) (fun n3 => br_c (fun _ => T) (fun n4 => br_c (fun _ => T) (fun n5 => br_c (fun _ => T) (fun n6 => br_t rfl (br_c (fun _ => H) (fun n7 => br_c (fun _ => H) (fun n8 => br_c (fun _ => H) (fun n9 => br_c (fun _ => H) (fun n10 => ?_))))))))))))
  rcases h with h | h | h | h | h | h | h | h | h | h
  · exact absurd h n1
  · exact absurd h n2
  · exact absurd h n3
  · exact absurd h n4
  · exact absurd h n5
  · exact absurd h n6
  · exact absurd h n7
  · exact absurd h n8
  · exact absurd h n9
  · exact absurd h n10
theorem zq_23U (h : ¬ zq_K x4) (H : wL_lawOf_117 post 150 2400 c x1 q v x4 0 0 0 0) : wL_lawOf_23 post 150 2400 c x1 q v x4 0 0 0 := by
  unfold zq_K at h
  simp only [not_or] at h
  obtain ⟨n1, n2, n3, n4, n5, n6, n7, n8, n9, n10⟩ := h
  exact br_t rfl (br_f n1 (br_f n2 (br_f n3 (br_f n4 (br_f n5 (br_f n6 (br_t rfl (br_f n7 (br_f n8 (br_f n9 (br_f n10 H)))))))))))
/-- a digit's interval -/
theorem zq_dig (h : zq_D k) : 0 ≤ 100 * (k - 48) ∧ 100 * (k - 48) + 99 ≤ 999 ∧ 100 * (k - 48) ≤ 100 * (k - 48) + 99 ∧ (100 * (k - 48)).toInt16.toInt32 = 100 * (k - 48) ∧ (100 * (k - 48) + 99).toInt16.toInt32 = 100 * (k - 48) + 99 := by
  have g0 : ¬ k < 0 := fun a => h.1 (Int32.lt_trans a (by decide))
  obtain ⟨j, hj, rfl⟩ := nI_of2 (M := 57) (n := 57) (by decide) g0 (Int32.not_lt.mp h.2)
  have g : 48 ≤ j := by
    rcases Nat.lt_or_ge j 48 with z | z
    · exact absurd (nI_lt z (by decide)) h.1
    · exact z
  have c : j = 48 ∨ j = 49 ∨ j = 50 ∨ j = 51 ∨ j = 52 ∨ j = 53 ∨ j = 54 ∨ j = 55 ∨ j = 56 ∨ j = 57 := by omega
  rcases c with rfl | rfl | rfl | rfl | rfl | rfl | rfl | rfl | rfl | rfl
  all_goals exact ⟨by decide, by decide, by decide, by decide, by decide⟩
theorem zq_lawOf (P : post 1 ()) : wpL_lawOf post 150 2400 () c x1 q v := by
  intro k ek
  have hn : vp_nar .char k = k := by rw [ek]; exact pk_vc c
  by_cases hd : zq_D k
  · obtain ⟨d0, d9, dd, dL, dM⟩ := zq_dig hd
    refine br_f hd.1 (br_f hd.2 (br_f (by decide) (br_f (by decide) (zq_117 (fun x7 e7 => br_f (by decide) (br_f (by decide) (br_f (by decide) ?_)))))))
    refine zq_189T (k := k) P (fun Q HQ => ?_) d0 d9 dd dL dM (fun a1 a2 a3 a4 a5 a6 a7 a8 mj mn dg lo hi il ih Q e HQ => ?_) e7
    · rw [← ek]
      exact zq_typeD hn hd HQ
    · subst e
      exact zq_itemD hd.1 hd.2 (HQ _ _ _ _ _)
  · have nd := zq_nD hd
    have T : wL_lawOf_23 post 150 2400 c x1 q v k 0 0 0 := by
      by_cases hk : zq_K k
      · refine zq_23K hk (zq_117 (fun x7 e7 => br_t rfl (br_c (fun e => br_t rfl (br_t rfl ?_)) (fun n => br_t rfl (br_t rfl ?_)))))
        · refine zq_189T (k := k) P (fun Q HQ => ?_) (by decide) (by decide) (by decide) (by decide) (by decide) (fun a1 a2 a3 a4 a5 a6 a7 a8 mj mn dg lo hi il ih Q e' HQ => ?_) e7
          · rw [← ek]
            exact zq_typeK hn hd hk HQ
          · exact zq_itemS (e'.trans e) (HQ _ _ _ _ _)
        · refine zq_189B (k := k) P (fun Q HQ => ?_) n nd e7
          rw [← ek]
          exact zq_typeK hn hd hk HQ
      · refine zq_23U hk (zq_117 (fun x7 e7 => br_t rfl (br_f (fun e => hk (Or.inr (Or.inl e))) (br_t rfl (br_t rfl ?_)))))
        refine zq_189U P (fun Q HQ => ?_) e7
        rw [← ek]
        exact zq_typeU hd hk HQ
    exact br_c (fun _ => T) (fun a => br_c (fun _ => T) (fun b => absurd ⟨a, b⟩ hd))
end
theorem zq_cell {Q : Int32 → Prop} {L : Nat} {xs : Nat → Int32} {p : Int32} (j : Nat) (hL : L ≤ 4) (hj : j < 4) (hp : p = nI j) (H : ∀ x, Q x) : wpL_cellAt Q L xs () p :=
  pk_le L j (fun _ => H 0) (fun h => ⟨pk_in j L h hp (by omega), H _⟩) rfl hp (by omega) (by omega)
/-! ===== WHAT IS OWED ===== -/
theorem i_vc (xs : Nat → Int32) (L : Nat) (hL : L ≤ 4) : wpL_law (fun r => r = 1) L xs :=
  zq_cell 0 hL (by decide) rfl (fun _ => zq_cell 1 hL (by decide) rfl (fun _ => zq_cell 2 hL (by decide) rfl (fun _ => zq_cell 3 hL (by decide) rfl (fun _ => ⟨150, 2400, by decide, by decide, zq_lawOf rfl⟩))))
end

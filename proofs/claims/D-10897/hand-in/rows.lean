section
/-! ===== the places of rows: a key and a value as one long ===== -/
def gl_P (k v : Int32) : Int64 := ((k.toInt64 <<< ((32 : Int32).toInt64 &&& 63)) + v.toInt64) + 2147483648
def gl_E (k : Int32) : Int64 := ((k + 1).toInt64) <<< ((32 : Int32).toInt64 &&& 63)
theorem gl_K : ∀ k, k < 8 → ((nI k).toInt64 <<< ((32 : Int32).toInt64 &&& 63)) = lN (k * 4294967296) := by decide +kernel
theorem gl_EK : ∀ k, k < 8 → gl_E (nI k) = lN ((k + 1) * 4294967296) := by decide +kernel
theorem gl_bm {x : Int} (h1 : -9223372036854775808 ≤ x) (h2 : x < 9223372036854775808) : x.bmod (2 ^ 64) = x :=
  Int.bmod_eq_of_le (by omega) (by omega)
theorem gl_PT {k : Nat} (hk : k < 8) (v : Int32) : (gl_P (nI k) v).toInt = (k : Int) * 4294967296 + v.toInt + 2147483648 := by
  have h1 := Int32.toInt_lt v
  have h2 := Int32.le_toInt v
  have hc : (2147483648 : Int64).toInt = 2147483648 := by decide
  have hK : (lN (k * 4294967296)).toInt = ((k * 4294967296 : Nat) : Int) := pk_lT (by omega)
  unfold gl_P
  rw [gl_K k hk, Int64.toInt_add, Int64.toInt_add, hK, Int32.toInt_toInt64, hc, gl_bm (x := ((k * 4294967296 : Nat) : Int) + v.toInt) (by omega) (by omega), gl_bm (by omega) (by omega)]
  omega
theorem gl_ET {k : Nat} (hk : k < 8) : (gl_E (nI k)).toInt = (k : Int) * 4294967296 + 4294967296 := by
  rw [gl_EK k hk, pk_lT (by omega)]
  omega
theorem gl_start {k : Nat} (hk : k < 8) (v : Int32) : gl_P (nI k) (-2147483648) ≤ gl_P (nI k) v := by
  rw [Int64.le_iff_toInt_le, gl_PT hk, gl_PT hk]
  have h2 := Int32.le_toInt v
  have hc : (-2147483648 : Int32).toInt = -2147483648 := by decide
  rw [hc]
  omega
theorem gl_end {k : Nat} (hk : k < 8) (v : Int32) : ¬ gl_E (nI k) ≤ gl_P (nI k) v := by
  rw [Int64.le_iff_toInt_le, gl_PT hk, gl_ET hk]
  have h1 := Int32.toInt_lt v
  omega
theorem gl_leI {k : Nat} (hk : k < 8) (b v : Int32) : gl_P (nI k) b ≤ gl_P (nI k) v ↔ b ≤ v := by
  rw [Int64.le_iff_toInt_le, gl_PT hk, gl_PT hk, Int32.le_iff_toInt_le]
  omega
theorem gl_eqI {k : Nat} (hk : k < 8) (b v : Int32) : gl_P (nI k) b = gl_P (nI k) v ↔ b = v := by
  rw [← Int64.toInt_inj, gl_PT hk, gl_PT hk, ← Int32.toInt_inj]
  omega
theorem gl_v0 : vp_in 0 41 := vp_in_iff.mpr (by decide)
theorem gl_v1 : vp_in 1 41 := vp_in_iff.mpr (by decide)
theorem gl_key {x : Int32} (h : ¬ x < 0) (h7 : ¬ 7 < x) : ∃ k : Nat, k < 8 ∧ x = nI k := by
  obtain ⟨j, hj, e⟩ := nI_of2 (x := x) (M := 7) (n := 7) (by decide) h (Int32.not_lt.mp h7)
  exact ⟨j, by omega, e⟩
end
section
/-! ===== questions to the tree: no node, and the one node 1 ===== -/
section
variable {ro fn de fl ce sb sa en : Int32} {a1 : Nat → Int64} {a2 a3 a4 a5 a6 a7 a8 a9 a10 a11 a12 a13 a14 : Nat → Int32}
theorem gl_rb0 {post : Int32 → Prop} {p : Int64} (h : post 0) : wpX_rowsBelow post (0, fn, de, fl, ce, sb, sa, en, a1, a2, a3, a4, a5, a6, a7, a8, a9, a10, a11, a12, a13, a14) p :=
  ⟨1, br_f (by decide) (br_t rfl h)⟩
theorem gl_to0 {post : Int32 → Prop} {p : Int64} (h : post 0) : wpX_timesOf post (0, fn, de, fl, ce, sb, sa, en, a1, a2, a3, a4, a5, a6, a7, a8, a9, a10, a11, a12, a13, a14) p :=
  ⟨1, br_f (by decide) (br_t rfl h)⟩
theorem gl_rbA {post : Int32 → Prop} {p : Int64} (h3 : a3 1 = 0) (hp : p ≤ a1 1) (h : post 0) : wpX_rowsBelow post (1, fn, de, fl, ce, sb, sa, en, a1, a2, a3, a4, a5, a6, a7, a8, a9, a10, a11, a12, a13, a14) p :=
  ⟨2, br_f (by decide) (br_f (by decide) ⟨gl_v1, br_t hp ⟨gl_v1, nm_r h3 (nm_e (br_f (by decide) (br_t rfl h)))⟩⟩)⟩
theorem gl_v3 {n : Nat} {y : Int32} {f : Nat → Int32} (h : f n = y) (hv : vp_in y 41) : vp_in (f n) 41 := by
  rw [h]; exact hv
theorem gl_rbB {post : Int32 → Prop} {p : Int64} (h2 : a2 1 = 1) (h3 : a3 1 = 0) (h4 : a4 1 = 0) (h6 : a6 0 = 0) (hp : ¬ p ≤ a1 1) (h : post 1) : wpX_rowsBelow post (1, fn, de, fl, ce, sb, sa, en, a1, a2, a3, a4, a5, a6, a7, a8, a9, a10, a11, a12, a13, a14) p := by
  have e : (0 : Int32) + (a6 (a3 1).toNatClampNeg + a2 1) = 1 := by
    rw [h3, h2, show (0 : Int32).toNatClampNeg = 0 from rfl, h6]
    decide
  exact ⟨2, br_f (by decide) (br_f (by decide) ⟨gl_v1, br_f hp ⟨gl_v1, gl_v3 h3 gl_v0, gl_v1, nm_r e ⟨gl_v1, nm_r h4 (nm_e (br_f (by decide) (br_t rfl h)))⟩⟩⟩)⟩
theorem gl_kbA {post : Int32 → Prop} {p : Int64} (h3 : a3 1 = 0) (hp : p ≤ a1 1) (h : post 0) : wpX_kindsBelow post (1, fn, de, fl, ce, sb, sa, en, a1, a2, a3, a4, a5, a6, a7, a8, a9, a10, a11, a12, a13, a14) p :=
  ⟨2, br_f (by decide) (br_f (by decide) ⟨gl_v1, br_t hp ⟨gl_v1, nm_r h3 (nm_e (br_f (by decide) (br_t rfl h)))⟩⟩)⟩
theorem gl_kbB {post : Int32 → Prop} {p : Int64} (h3 : a3 1 = 0) (h4 : a4 1 = 0) (h7 : a7 0 = 0) (hp : ¬ p ≤ a1 1) (h : post 1) : wpX_kindsBelow post (1, fn, de, fl, ce, sb, sa, en, a1, a2, a3, a4, a5, a6, a7, a8, a9, a10, a11, a12, a13, a14) p := by
  have e : (0 : Int32) + (a7 (a3 1).toNatClampNeg + 1) = 1 := by
    rw [h3, show (0 : Int32).toNatClampNeg = 0 from rfl, h7]
    decide
  exact ⟨2, br_f (by decide) (br_f (by decide) ⟨gl_v1, br_f hp ⟨gl_v1, gl_v3 h3 gl_v0, nm_r e ⟨gl_v1, nm_r h4 (nm_e (br_f (by decide) (br_t rfl h)))⟩⟩⟩)⟩
theorem gl_sb1 {post : Int32 → Prop} {p : Int64} (h3 : a3 1 = 0) (h4 : a4 1 = 0) (H : ∀ r, post r) : wpX_sumBelow post (1, fn, de, fl, ce, sb, sa, en, a1, a2, a3, a4, a5, a6, a7, a8, a9, a10, a11, a12, a13, a14) p :=
  ⟨2, br_f (by decide) (br_f (by decide) ⟨gl_v1, br_c
    (fun _ => ⟨gl_v1, nm_r h3 (nm_e (br_f (by decide) (br_t rfl (H _))))⟩)
    (fun _ => ⟨gl_v1, gl_v3 h3 gl_v0, gl_v1, gl_v1, nm_e ⟨gl_v1, nm_r h4 (nm_e (br_f (by decide) (br_t rfl (H _))))⟩⟩)⟩)⟩
theorem gl_ra1 {post : Int64 → Prop} {x : Int32} (h3 : a3 1 = 0) (h4 : a4 1 = 0) (H : ∀ r, post r) : wpX_rowAt post (1, fn, de, fl, ce, sb, sa, en, a1, a2, a3, a4, a5, a6, a7, a8, a9, a10, a11, a12, a13, a14) x :=
  ⟨2, br_f (by decide) (br_f (by decide) ⟨gl_v1, gl_v3 h3 gl_v0, nm_e (br_c
    (fun _ => ⟨gl_v1, br_c
      (fun _ => ⟨gl_v1, nm_e ⟨gl_v1, nm_r h4 (nm_e (br_f (by decide) (br_t rfl (H _))))⟩⟩)
      (fun _ => ⟨gl_v1, H _⟩)⟩)
    (fun _ => ⟨gl_v1, nm_r h3 (nm_e (br_f (by decide) (br_t rfl (H _))))⟩))⟩)⟩
theorem gl_toY {post : Int32 → Prop} {p : Int64} (h2 : a2 1 = 1) (hp : a1 1 = p) (h : post 1) : wpX_timesOf post (1, fn, de, fl, ce, sb, sa, en, a1, a2, a3, a4, a5, a6, a7, a8, a9, a10, a11, a12, a13, a14) p :=
  ⟨2, br_f (by decide) (br_f (by decide) ⟨gl_v1, br_t hp ⟨gl_v1, ek_v (a := a2 1) h2 h⟩⟩)⟩
theorem gl_toN {post : Int32 → Prop} {p : Int64} (h3 : a3 1 = 0) (h4 : a4 1 = 0) (hp : ¬ a1 1 = p) (h : post 0) : wpX_timesOf post (1, fn, de, fl, ce, sb, sa, en, a1, a2, a3, a4, a5, a6, a7, a8, a9, a10, a11, a12, a13, a14) p :=
  ⟨2, br_f (by decide) (br_f (by decide) ⟨gl_v1, br_f hp ⟨gl_v1, br_c
    (fun _ => ⟨gl_v1, nm_r h4 (nm_e (br_f (by decide) (br_t rfl h)))⟩)
    (fun _ => ⟨gl_v1, nm_r h3 (nm_e (br_f (by decide) (br_t rfl h)))⟩)⟩⟩)⟩
end
end
section
/-! ===== describe: no node; the one node ===== -/
section
variable {ro fn de fl ce sb sa en : Int32} {a1 : Nat → Int64} {a2 a3 a4 a5 a6 a7 a8 a9 a10 a11 a12 a13 a14 : Nat → Int32}
theorem gl_d39z {post : St2 → Prop} {x2 x4 : Int64} {x6 : Int32} (H : ∀ s, post (ro, fn, de, fl, ce, sb, sa, en, a1, a2, a3, a4, a5, a6, a7, a8, a9, a10, s, a12, a13, a14)) : ∃ n, wX_describe_39 post x2 x4 x6 0 ro fn de fl ce sb sa en n 0 a1 a2 a3 a4 a5 a6 a7 a8 a9 a10 a11 a12 a13 a14 :=
  pk_loop (fun n i s => wX_describe_39 post x2 x4 x6 0 ro fn de fl ce sb sa en n (nI i) a1 a2 a3 a4 a5 a6 a7 a8 a9 a10 s a12 a13 a14) (fun _ _ => True) 6 0 a11 (by omega) trivial
    (fun n s _ => br_t (by decide) (br_t rfl (H s)))
    (fun n i s hi _ hw => br_f (nI_ge (b := 6) hi (by decide)) ⟨pk_in i 6 hi, nm_e (nm_r (nI_1 i) (hw _ trivial))⟩)
theorem gl_desc0 {post : St2 → Prop} {key : Int32} (H : ∀ s, post (0, fn, de, fl, ce, sb, 0, en, a1, a2, a3, a4, a5, a6, a7, a8, a9, a10, s, a12, a13, a14)) : wpX_describe post (0, fn, de, fl, ce, sb, sa, en, a1, a2, a3, a4, a5, a6, a7, a8, a9, a10, a11, a12, a13, a14) key := by
  unfold wpX_describe wpX_placeOf wpX_placeOfEnd
  exact gl_rb0 (gl_rb0 (nm_r (show (0 : Int32) - 0 = 0 from rfl) (gl_d39z H)))
theorem gl_lim40 {f : Nat → Int32} {x y : Int32} (h : x = 1) : ¬ (40 : Int32) < upd (upd f 4 x) 5 y 4 := by
  rw [pk_un (by decide), pk_us, h]
  decide
theorem gl_d39o {post : St2 → Prop} {x2 x4 : Int64} (h3 : a3 1 = 0) (h4 : a4 1 = 0) (h7 : a7 0 = 0) (hs : x2 ≤ a1 1) (he : ¬ x4 ≤ a1 1)
    (H : ∀ s, post (1, fn, de, 1, 40, sb, 1, en, a1, a2, a3, a4, a5, a6, a7, a8, a9, a10, s, a12, a13, a14)) : ∃ n, wX_describe_39 post x2 x4 0 1 1 fn de 1 40 sb sa en n 0 a1 a2 a3 a4 a5 a6 a7 a8 a9 a10 a11 a12 a13 a14 :=
  pk_loop (fun n i s => wX_describe_39 post x2 x4 0 1 1 fn de 1 40 sb sa en n (nI i) a1 a2 a3 a4 a5 a6 a7 a8 a9 a10 s a12 a13 a14) (fun _ _ => True) 6 0 a11 (by omega) trivial
    (fun n s _ => by
      refine br_t (by decide) (br_f (by decide) (nm_e ?_))
      refine gl_sb1 h3 h4 (fun r10 => ?_)
      refine gl_sb1 h3 h4 (fun r11 => ?_)
      refine nm_e ?_
      refine gl_ra1 h3 h4 (fun r14 => ?_)
      refine gl_ra1 h3 h4 (fun r15 => ?_)
      refine ⟨by decide, ?_⟩
      refine gl_ra1 h3 h4 (fun r17 => ?_)
      unfold wpX_valueOf
      refine nm_e ?_
      refine nm_e ?_
      refine gl_kbB h3 h4 h7 he ?_
      refine gl_kbA h3 hs ?_
      refine nm_e ?_
      refine nm_e ?_
      exact br_f (by decide) (br_f (gl_lim40 rfl) (H _)))
    (fun n i s hi _ hw => br_f (nI_ge (b := 6) hi (by decide)) ⟨pk_in i 6 hi, nm_e (nm_r (nI_1 i) (hw _ trivial))⟩)
theorem gl_desc1 {post : St2 → Prop} {key : Int32} (h2 : a2 1 = 1) (h3 : a3 1 = 0) (h4 : a4 1 = 0) (h6 : a6 0 = 0) (h7 : a7 0 = 0)
    (hs : gl_P key (-2147483648) ≤ a1 1) (he : ¬ gl_E key ≤ a1 1) (H : ∀ s, post (1, fn, de, 1, 40, sb, 1, en, a1, a2, a3, a4, a5, a6, a7, a8, a9, a10, s, a12, a13, a14)) : wpX_describe post (1, fn, de, 1, 40, sb, sa, en, a1, a2, a3, a4, a5, a6, a7, a8, a9, a10, a11, a12, a13, a14) key := by
  unfold wpX_describe wpX_placeOf wpX_placeOfEnd
  exact gl_rbA h3 hs (gl_rbB h2 h3 h4 h6 he (nm_r (show (1 : Int32) - 0 = 1 from rfl) (gl_d39o h3 h4 h7 hs he H)))
end
end
section
/-! ===== noteBefore, logChange ===== -/
section
variable {ro fn de fl ce sb sa en : Int32} {a1 : Nat → Int64} {a2 a3 a4 a5 a6 a7 a8 a9 a10 a11 a12 a13 a14 : Nat → Int32}
theorem gl_n15 {post : St2 → Prop} (H : ∀ s, post (ro, fn, de, fl, ce, sb, sa, en, a1, a2, a3, a4, a5, a6, a7, a8, a9, s, a11, a12, a13, a14)) : ∃ n, wX_noteBefore_15 post ro fn de fl ce sb sa en n 0 a1 a2 a3 a4 a5 a6 a7 a8 a9 a10 a11 a12 a13 a14 :=
  pk_loop (fun n i s => wX_noteBefore_15 post ro fn de fl ce sb sa en n (nI i) a1 a2 a3 a4 a5 a6 a7 a8 a9 s a11 a12 a13 a14) (fun _ _ => True) 6 0 a10 (by omega) trivial
    (fun n s _ => br_t (by decide) (H s))
    (fun n i s hi _ hw => br_f (nI_ge (b := 6) hi (by decide)) ⟨pk_in i 6 hi, pk_in i 6 hi, nm_e (nm_r (nI_1 i) (hw _ trivial))⟩)
theorem gl_note0 {post : St2 → Prop} {key : Int32} (H : ∀ s t, post (0, fn, de, fl, ce, 0, 0, en, a1, a2, a3, a4, a5, a6, a7, a8, a9, t, s, a12, a13, a14)) : wpX_noteBefore post (0, fn, de, fl, ce, sb, sa, en, a1, a2, a3, a4, a5, a6, a7, a8, a9, a10, a11, a12, a13, a14) key := by
  unfold wpX_noteBefore
  exact gl_desc0 (fun s => ⟨rfl, rfl, gl_n15 (H s)⟩)
theorem gl_note1 {post : St2 → Prop} {key : Int32} (h2 : a2 1 = 1) (h3 : a3 1 = 0) (h4 : a4 1 = 0) (h6 : a6 0 = 0) (h7 : a7 0 = 0)
    (hs : gl_P key (-2147483648) ≤ a1 1) (he : ¬ gl_E key ≤ a1 1) (H : ∀ s t, post (1, fn, de, 1, 40, 1, 1, en, a1, a2, a3, a4, a5, a6, a7, a8, a9, t, s, a12, a13, a14)) : wpX_noteBefore post (1, fn, de, 1, 40, sb, sa, en, a1, a2, a3, a4, a5, a6, a7, a8, a9, a10, a11, a12, a13, a14) key := by
  unfold wpX_noteBefore
  exact gl_desc1 h2 h3 h4 h6 h7 hs he (fun s => ⟨rfl, rfl, gl_n15 (H s)⟩)
theorem gl_ix {e : Int32} (m : Nat) (h : 6 * (e - 1) = nI m) (i : Nat) : (6 * (e - 1)) + nI i = nI (m + i) := by
  rw [h, nI_add]
theorem gl_l133 {post : St2 → Prop} (H : ∀ s, post (ro, fn, de, fl, ce, sb, sa, 1, a1, a2, a3, a4, a5, a6, a7, a8, a9, a10, a11, a12, a13, s)) : ∃ n, wX_logChange_133 post ro fn de fl ce sb sa 1 n 0 a1 a2 a3 a4 a5 a6 a7 a8 a9 a10 a11 a12 a13 a14 :=
  pk_loop (fun n i s => wX_logChange_133 post ro fn de fl ce sb sa 1 n (nI i) a1 a2 a3 a4 a5 a6 a7 a8 a9 a10 a11 a12 a13 s) (fun _ _ => True) 6 0 a14 (by omega) trivial
    (fun n s _ => br_t (by decide) (H s))
    (fun n i s hi _ hw => br_f (nI_ge (b := 6) hi (by decide)) ⟨pk_in i 6 hi, by rw [gl_ix 0 (by decide) i]; exact vp_in_nI (by omega) (by decide), nm_e (nm_r (nI_1 i) (hw _ trivial))⟩)
theorem gl_l84 {post : St2 → Prop} {key : Int32} (H : ∀ s, post (ro, fn, de, fl, ce, sb, 0, 2, a1, a2, a3, a4, a5, a6, a7, a8, a9, a10, a11, a12, a13, s)) : ∃ n, wX_logChange_84 post key ro fn de fl ce sb 0 2 n 0 a1 a2 a3 a4 a5 a6 a7 a8 a9 a10 a11 a12 a13 a14 :=
  pk_loop (fun n i s => wX_logChange_84 post key ro fn de fl ce sb 0 2 n (nI i) a1 a2 a3 a4 a5 a6 a7 a8 a9 a10 a11 a12 a13 s) (fun _ _ => True) 6 0 a14 (by omega) trivial
    (fun n s _ => br_t (by decide) (br_t rfl (H s)))
    (fun n i s hi _ hw => br_f (nI_ge (b := 6) hi (by decide)) ⟨pk_in i 6 hi, by rw [gl_ix 6 (by decide) i]; exact vp_in_nI (by omega) (by decide), nm_e (nm_r (nI_1 i) (hw _ trivial))⟩)
/-- the entry of a group that is shown after, not before: the first entry of the log -/
theorem gl_l118 {post : St2 → Prop} {key : Int32} (H : ∀ s, post (ro, fn, de, fl, ce, sb, 1, 1, a1, a2, a3, a4, a5, a6, a7, a8, a9, a10, a11, upd a12 0 2, upd a13 0 key, s)) : wX_logChange_118 post key ro fn de fl ce sb 1 0 a1 a2 a3 a4 a5 a6 a7 a8 a9 a10 a11 a12 a13 a14 := by
  unfold wX_logChange_118
  refine br_f (by decide) ?_
  unfold wpX_startEntry
  exact ⟨pk_in 0 24 (by decide), nm_r rfl ⟨pk_in 0 24 (by decide), nm_r rfl (nm_r (show (0 : Int32) + 1 = 1 from rfl) (gl_l133 H))⟩⟩
theorem gl_l27 {post : St2 → Prop} {key : Int32} (H : wX_logChange_118 post key ro fn de fl ce 0 sa en a1 a2 a3 a4 a5 a6 a7 a8 a9 a10 a11 a12 a13 a14) : ∃ n, wX_logChange_27 post key ro fn de fl ce 0 sa en a1 a2 a3 a4 a5 a6 a7 a8 a9 a10 a11 a12 a13 a14 n 0 0 :=
  pk_loop (σ := Unit) (fun n i _ => wX_logChange_27 post key ro fn de fl ce 0 sa en a1 a2 a3 a4 a5 a6 a7 a8 a9 a10 a11 a12 a13 a14 n 0 (nI i)) (fun _ _ => True) 6 0 () (by omega) trivial
    (fun n _ _ => br_t (by decide) (br_t rfl (br_t rfl H)))
    (fun n i _ hi _ hw => br_f (nI_ge (b := 6) hi (by decide)) (br_t rfl (nm_r (nI_1 i) (hw () trivial))))
theorem gl_l27r {post : St2 → Prop} {key : Int32} (H : ∀ s t r, post (ro, fn, de, fl, ce, 1, 0, 2, a1, a2, a3, a4, a5, a6, a7, a8, a9, a10, a11, s, t, r)) : ∃ n, wX_logChange_27 post key ro fn de fl ce 1 0 1 a1 a2 a3 a4 a5 a6 a7 a8 a9 a10 a11 a12 a13 a14 n 0 0 :=
  pk_loop (σ := Unit) (fun n i _ => wX_logChange_27 post key ro fn de fl ce 1 0 1 a1 a2 a3 a4 a5 a6 a7 a8 a9 a10 a11 a12 a13 a14 n 0 (nI i)) (fun _ _ => True) 6 0 () (by omega) trivial
    (fun n _ _ => by
      refine br_t (by decide) (br_t rfl (br_f (by decide) ?_))
      unfold wpX_startEntry
      exact ⟨pk_in 1 24 (by decide), nm_e ⟨pk_in 1 24 (by decide), nm_e (nm_r (show (1 : Int32) + 1 = 2 from rfl) (gl_l84 (H _ _)))⟩⟩)
    (fun n i _ hi _ hw => br_f (nI_ge (b := 6) hi (by decide)) (br_t rfl (nm_r (nI_1 i) (hw () trivial))))
/-- not shown before, not shown after -/
theorem gl_log00 {post : St2 → Prop} {key : Int32} (H : ∀ s, post (0, fn, de, fl, ce, 0, 0, en, a1, a2, a3, a4, a5, a6, a7, a8, a9, a10, s, a12, a13, a14)) : wpX_logChange post (0, fn, de, fl, ce, 0, sa, en, a1, a2, a3, a4, a5, a6, a7, a8, a9, a10, a11, a12, a13, a14) key := by
  unfold wpX_logChange
  exact gl_desc0 (fun s => br_t rfl (gl_l27 (br_t rfl (H s))))
/-- not shown before, shown after -/
theorem gl_log01 {post : St2 → Prop} {key : Int32} (h2 : a2 1 = 1) (h3 : a3 1 = 0) (h4 : a4 1 = 0) (h6 : a6 0 = 0) (h7 : a7 0 = 0)
    (hs : gl_P key (-2147483648) ≤ a1 1) (he : ¬ gl_E key ≤ a1 1) (H : ∀ s t, post (1, fn, de, 1, 40, 0, 1, 1, a1, a2, a3, a4, a5, a6, a7, a8, a9, a10, s, upd a12 0 2, upd a13 0 key, t)) : wpX_logChange post (1, fn, de, 1, 40, 0, sa, 0, a1, a2, a3, a4, a5, a6, a7, a8, a9, a10, a11, a12, a13, a14) key := by
  unfold wpX_logChange
  exact gl_desc1 h2 h3 h4 h6 h7 hs he (fun s => br_t rfl (gl_l27 (gl_l118 (H s))))
/-- shown before, not shown after -/
theorem gl_log10 {post : St2 → Prop} {key : Int32} (H : ∀ s t r q, post (0, fn, de, fl, ce, 1, 0, 2, a1, a2, a3, a4, a5, a6, a7, a8, a9, a10, s, t, r, q)) : wpX_logChange post (0, fn, de, fl, ce, 1, sa, 1, a1, a2, a3, a4, a5, a6, a7, a8, a9, a10, a11, a12, a13, a14) key := by
  unfold wpX_logChange
  exact gl_desc0 (fun s => br_f (by decide) (br_t rfl (gl_l27r (H s))))
end
end
section
/-! ===== changing the tree: the first node in, the one node out ===== -/
section
variable {ro fn de fl ce sb sa en : Int32} {a1 : Nat → Int64} {a2 a3 a4 a5 a6 a7 a8 a9 a10 a11 a12 a13 a14 : Nat → Int32}
theorem gl_mend0 {post : St2 → Prop} (h : post (ro, fn, 0, fl, ce, sb, sa, en, a1, a2, a3, a4, a5, a6, a7, a8, a9, a10, a11, a12, a13, a14)) : wpX_mendPath post (ro, fn, 0, fl, ce, sb, sa, en, a1, a2, a3, a4, a5, a6, a7, a8, a9, a10, a11, a12, a13, a14) := by
  unfold wpX_mendPath
  exact nm_r (show (0 : Int32) - 1 = -1 from rfl) ⟨1, br_t (by decide) h⟩
theorem gl_upd1 {post : St2 → Prop} (h3 : a3 1 = 0) (h4 : a4 1 = 0)
    (H : ∀ r5 r8, post (ro, fn, de, fl, ce, sb, sa, en, a1, a2, a3, a4, r5, upd a6 1 ((a6 0 + a6 0) + a2 1), upd a7 1 ((a7 0 + a7 0) + 1), r8, a9, a10, a11, a12, a13, a14)) : wpX_update post (ro, fn, de, fl, ce, sb, sa, en, a1, a2, a3, a4, a5, a6, a7, a8, a9, a10, a11, a12, a13, a14) 1 := by
  unfold wpX_update
  refine ⟨gl_v1, nm_r h3 ⟨gl_v1, nm_r h4 ⟨gl_v0, gl_v0, br_t (Int32.le_refl _) ⟨gl_v0, ?_⟩⟩⟩⟩
  unfold wX_update_50 wpX_valueOf
  exact ⟨gl_v1, nm_e ⟨gl_v0, gl_v0, gl_v1, gl_v1, nm_e ⟨gl_v0, gl_v0, gl_v1, nm_e ⟨gl_v0, gl_v0, gl_v1, gl_v1, gl_v1, nm_e (H _ _)⟩⟩⟩⟩
theorem gl_new {post : Int32 → St2 → Prop} {p : Int64}
    (H : ∀ r5 r8, post 1 (ro, a3 1, de, fl, ce, sb, sa, en, vp_updL a1 1 p, upd a2 1 1, upd a3 1 0, upd a4 1 0, r5, upd a6 1 ((a6 0 + a6 0) + upd a2 1 1 1), upd a7 1 ((a7 0 + a7 0) + 1), r8, a9, a10, a11, a12, a13, a14)) : wpX_newNode post (ro, 1, de, fl, ce, sb, sa, en, a1, a2, a3, a4, a5, a6, a7, a8, a9, a10, a11, a12, a13, a14) p := by
  unfold wpX_newNode
  refine ⟨gl_v1, nm_r (show a3 (1 : Int32).toNatClampNeg = a3 1 from rfl) ⟨gl_v1, nm_r (show vp_updL a1 (1 : Int32).toNatClampNeg p = vp_updL a1 1 p from rfl) ⟨gl_v1, nm_r (show upd a2 (1 : Int32).toNatClampNeg 1 = upd a2 1 1 from rfl) ⟨gl_v1, nm_r (show upd a3 (1 : Int32).toNatClampNeg 0 = upd a3 1 0 from rfl) ⟨gl_v1, nm_r (show upd a4 (1 : Int32).toNatClampNeg 0 = upd a4 1 0 from rfl) ?_⟩⟩⟩⟩⟩
  exact gl_upd1 pk_us pk_us H
theorem gl_add {post : St2 → Prop} {p : Int64}
    (H : ∀ r5 r8, post (1, a3 1, 0, fl, ce, sb, sa, en, vp_updL a1 1 p, upd a2 1 1, upd a3 1 0, upd a4 1 0, r5, upd a6 1 ((a6 0 + a6 0) + upd a2 1 1 1), upd a7 1 ((a7 0 + a7 0) + 1), r8, a9, a10, a11, a12, a13, a14)) : wpX_add post (0, 1, de, fl, ce, sb, sa, en, a1, a2, a3, a4, a5, a6, a7, a8, a9, a10, a11, a12, a13, a14) p := by
  unfold wpX_add
  refine ⟨1, br_f (by decide) (br_t rfl ?_)⟩
  unfold wX_add_93
  refine br_t rfl ?_
  refine gl_new (fun r5 r8 => ?_)
  refine br_t rfl ?_
  unfold wX_add_177
  exact gl_mend0 (H r5 r8)
theorem gl_takeOut {post : St2 → Prop} (h3 : a3 1 = 0) (h4 : a4 1 = 0) (H : post (0, 1, 0, fl, ce, sb, sa, en, a1, a2, upd a3 1 fn, a4, a5, a6, a7, a8, a9, a10, a11, a12, a13, a14)) : wpX_takeOut post (ro, fn, 1, fl, ce, sb, sa, en, a1, a2, a3, a4, a5, a6, a7, a8, a9, a10, a11, a12, a13, a14) 1 := by
  have e : a4 (1 : Int32).toNatClampNeg = 0 := h4
  unfold wpX_takeOut
  refine ⟨gl_v1, br_t h3 ⟨gl_v1, ?_⟩⟩
  rw [e]
  unfold wX_takeOut_24
  refine nm_r (show (1 : Int32) - 1 = 0 from rfl) (br_t rfl ?_)
  unfold wX_takeOut_83
  exact ⟨gl_v1, nm_e H⟩
theorem gl_le1 {x : Int32} (h : x = 1) : x ≤ 1 := by
  rw [h]; decide
theorem gl_drop {post : St2 → Prop} {p : Int64} (h1 : a1 1 = p) (h2 : a2 1 = 1) (h3 : a3 1 = 0) (h4 : a4 1 = 0)
    (H : ∀ r9, post (0, 1, 0, fl, ce, sb, sa, en, a1, a2, upd a3 1 fn, a4, a5, a6, a7, a8, r9, a10, a11, a12, a13, a14)) : wpX_drop post (1, fn, de, fl, ce, sb, sa, en, a1, a2, a3, a4, a5, a6, a7, a8, a9, a10, a11, a12, a13, a14) p := by
  unfold wpX_drop
  refine ⟨1, br_f (by decide) (br_f (by decide) ⟨gl_v1, br_t h1 ?_⟩)⟩
  unfold wX_drop_73
  refine br_f (by decide) ?_
  unfold wpX_step
  refine ⟨pk_in 0 16 (by decide), nm_e (nm_r (show (0 : Int32) + 1 = 1 from rfl) ⟨gl_v1, br_t (gl_le1 h2) ⟨gl_v1, br_t h3 ?_⟩⟩)⟩
  unfold wX_drop_162
  exact gl_takeOut h3 h4 (gl_mend0 (H _))
end
end
section
/-! ===== the methods that the law calls ===== -/
/-- the one row of the one node, and the one entry of the log -/
def gl_one (key : Int32) (q : Int64) (a1 : Nat → Int64) (a2 a3 a4 a6 a7 a12 a13 : Nat → Int32) : Prop :=
  a1 1 = q ∧ a2 1 = 1 ∧ a3 1 = 0 ∧ a4 1 = 0 ∧ a6 0 = 0 ∧ a7 0 = 0 ∧ a12 0 = 2 ∧ a13 0 = key
section
variable {ro fn de fl ce sb sa en : Int32} {a1 : Nat → Int64} {a2 a3 a4 a5 a6 a7 a8 a9 a10 a11 a12 a13 a14 : Nat → Int32}
theorem gl_i130 {post : St2 → Prop} {mc ms kc ks : Nat} (H : ∀ s, post (ro, 1, de, fl, ce, sb, sa, en, a1, a2, s, a4, a5, a6, a7, a8, a9, a10, a11, a12, a13, a14)) : ∃ n, wX_init_130 post mc ms kc ks ro fn de fl ce sb sa en n 1 a1 a2 a3 a4 a5 a6 a7 a8 a9 a10 a11 a12 a13 a14 :=
  pk_loop (fun n i s => wX_init_130 post mc ms kc ks ro fn de fl ce sb sa en n (nI i) a1 a2 s a4 a5 a6 a7 a8 a9 a10 a11 a12 a13 a14) (fun _ _ => True) 41 1 a3 (by omega) trivial
    (fun n s _ => br_t (by decide) (H s))
    (fun n i s hi _ hw => br_f (nI_ge (b := 41) hi (by decide)) (br_c
      (fun _ => ⟨pk_in i 41 hi, nm_e (nm_r (nI_1 i) (hw _ trivial))⟩)
      (fun _ => ⟨pk_in i 41 hi, nm_e (nm_r (nI_1 i) (hw _ trivial))⟩)))
theorem gl_init {post : St2 → Prop} (H : ∀ s, post (0, 1, 0, 1, 40, 0, 0, 0, (fun _ => 0), (fun _ => 0), s, (fun _ => 0), (fun _ => 0), (fun _ => 0), (fun _ => 0), (fun _ => 0), (fun _ => 0), (fun _ => 0), (fun _ => 0), (fun _ => 0), (fun _ => 0), (fun _ => 0))) :
    wpX_init post 337 5386 (0, 0, 0, 0, 0, 0, 0, 0) := by
  unfold wpX_init
  exact ⟨by decide, by decide, by decide, by decide, by decide, by decide, by decide, by decide, by decide, by decide, by decide, by decide, by decide, by decide, by decide, by decide, by decide, by decide, by decide, by decide, by decide, by decide, by decide, by decide, by decide, by decide, by decide, by decide, gl_i130 H⟩
theorem gl_n7 {k : Nat} (hk : k < 8) : ¬ (7 : Int32) < nI k := nI_nlt (a := 7) (b := k) (by omega) (by omega)
theorem gl_n40 {x : Int32} (h : x = 0) : ¬ 40 ≤ x := by
  rw [h]; decide
/-- the first row in -/
theorem gl_ins {post : Int32 → St2 → Prop} {k : Nat} {v : Int32} (hk : k < 8) (h6 : a6 0 = 0) (h7 : a7 0 = 0)
    (H : ∀ (fn : Int32) (a1 : Nat → Int64) (a2 a3 a4 a5 a6 a7 a8 a9 a10 a11 a12 a13 a14 : Nat → Int32), gl_one (nI k) (gl_P (nI k) v) a1 a2 a3 a4 a6 a7 a12 a13 → post 1 (1, fn, 0, 1, 40, 0, 1, 1, a1, a2, a3, a4, a5, a6, a7, a8, a9, a10, a11, a12, a13, a14)) :
    wpX_insert post (0, 1, de, 1, 40, sb, sa, 0, a1, a2, a3, a4, a5, a6, a7, a8, a9, a10, a11, a12, a13, a14) (nI k) v := by
  unfold wpX_insert
  refine br_f (nI_pos (by omega)) (br_f (gl_n7 hk) ⟨gl_v0, br_f (gl_n40 h6) (br_t (by decide) ?_)⟩)
  refine gl_note0 (fun s t => ?_)
  unfold wpX_placeOf
  refine gl_add (fun r5 r8 => ?_)
  have e6 : upd a6 1 ((a6 0 + a6 0) + upd a2 1 1 1) 1 = 1 := by
    rw [pk_us, pk_us, h6]; decide
  have e60 : upd a6 1 ((a6 0 + a6 0) + upd a2 1 1 1) 0 = 0 := by
    rw [pk_un (by decide), h6]
  have e70 : upd a7 1 ((a7 0 + a7 0) + 1) 0 = 0 := by
    rw [pk_un (by decide), h7]
  have e1 : vp_updL a1 1 (gl_P (nI k) v) 1 = gl_P (nI k) v := pk_uLs
  refine gl_log01 pk_us pk_us pk_us e60 e70 (by show _ ≤ vp_updL a1 1 (gl_P (nI k) v) 1; rw [e1]; exact gl_start hk v) (by show ¬ _ ≤ vp_updL a1 1 (gl_P (nI k) v) 1; rw [e1]; exact gl_end hk v) (fun s' t' => ⟨gl_v1, ?_⟩)
  exact ek_v (P := fun r => post r _) e6 (H _ _ _ _ _ _ _ _ _ _ _ _ _ _ _ ⟨e1, pk_us, pk_us, pk_us, e60, e70, pk_us, pk_us⟩)
/-- a key out of bounds -/
theorem gl_insN {post : Int32 → St2 → Prop} {key v : Int32} (hk : key < 0 ∨ 7 < key) (H : post (-1) (ro, fn, de, fl, ce, sb, sa, en, a1, a2, a3, a4, a5, a6, a7, a8, a9, a10, a11, a12, a13, a14)) : wpX_insert post (ro, fn, de, fl, ce, sb, sa, en, a1, a2, a3, a4, a5, a6, a7, a8, a9, a10, a11, a12, a13, a14) key v := by
  unfold wpX_insert
  exact br_c (fun _ => H) (fun g => br_t (hk.resolve_left g) H)
theorem gl_ge1 {p : Int32} (h : ¬ p < 0) (h0 : ¬ p = 0) : 1 ≤ p := by
  obtain ⟨j, hj, rfl⟩ := nI_of h
  have h1 : 0 < j := by
    rcases Nat.eq_zero_or_pos j with z | z
    · exact absurd (by rw [z]; rfl) h0
    · exact z
  exact nI_le (a := 1) (b := j) h1 hj
theorem gl_sortY {post : Int32 → Prop} {p : Int32} (hp : p = 0) (h : post (a12 0)) : wpX_sort post (ro, fn, de, fl, ce, sb, sa, 1, a1, a2, a3, a4, a5, a6, a7, a8, a9, a10, a11, a12, a13, a14) p := by
  subst hp
  unfold wpX_sort wpX_isEntry
  exact br_f (by decide) (br_f (by decide) (br_f (by decide) ⟨pk_in 0 24 (by decide), h⟩))
theorem gl_sortN {post : Int32 → Prop} {p : Int32} (hp : ¬ p = 0) (h : post 0) : wpX_sort post (ro, fn, de, fl, ce, sb, sa, 1, a1, a2, a3, a4, a5, a6, a7, a8, a9, a10, a11, a12, a13, a14) p := by
  unfold wpX_sort wpX_isEntry
  exact br_c (fun _ => br_t rfl h) (fun g => br_t (gl_ge1 g hp) (br_t rfl h))
theorem gl_sort0 {post : Int32 → Prop} {p : Int32} (h : post 0) : wpX_sort post (ro, fn, de, fl, ce, sb, sa, 0, a1, a2, a3, a4, a5, a6, a7, a8, a9, a10, a11, a12, a13, a14) p := by
  unfold wpX_sort wpX_isEntry
  exact br_c (fun _ => br_t rfl h) (fun g => br_t (Int32.not_lt.mp g) (br_t rfl h))
theorem gl_keyY {post : Int32 → Prop} {p : Int32} (hp : p = 0) (h : post (a13 0)) : wpX_key post (ro, fn, de, fl, ce, sb, sa, 1, a1, a2, a3, a4, a5, a6, a7, a8, a9, a10, a11, a12, a13, a14) p := by
  subst hp
  unfold wpX_key wpX_isEntry
  exact br_f (by decide) (br_f (by decide) (br_f (by decide) ⟨pk_in 0 24 (by decide), h⟩))
theorem gl_keyN {post : Int32 → Prop} {p : Int32} (hp : ¬ p = 0) (h : post (-1)) : wpX_key post (ro, fn, de, fl, ce, sb, sa, 1, a1, a2, a3, a4, a5, a6, a7, a8, a9, a10, a11, a12, a13, a14) p := by
  unfold wpX_key wpX_isEntry
  exact br_c (fun _ => br_t rfl h) (fun g => br_t (gl_ge1 g hp) (br_t rfl h))
theorem gl_key0 {post : Int32 → Prop} {p : Int32} (h : post (-1)) : wpX_key post (ro, fn, de, fl, ce, sb, sa, 0, a1, a2, a3, a4, a5, a6, a7, a8, a9, a10, a11, a12, a13, a14) p := by
  unfold wpX_key wpX_isEntry
  exact br_c (fun _ => br_t rfl h) (fun g => br_t (Int32.not_lt.mp g) (br_t rfl h))
theorem gl_l7 {k : Nat} (hk : k < 8) : nI k ≤ (7 : Int32) := nI_le (a := k) (b := 7) (by omega) (by omega)
theorem gl_belY {post : Int32 → Prop} {k : Nat} {v b : Int32} (hk : k < 8) (h1 : a1 1 = gl_P (nI k) v) (h2 : a2 1 = 1) (h3 : a3 1 = 0) (h4 : a4 1 = 0) (h6 : a6 0 = 0)
    (hb : ¬ b ≤ v) (h : post 1) : wpX_below post (1, fn, de, fl, ce, sb, sa, en, a1, a2, a3, a4, a5, a6, a7, a8, a9, a10, a11, a12, a13, a14) (nI k) b := by
  unfold wpX_below wpX_placeOf
  refine br_f (nI_pos (by omega)) (br_t (gl_l7 hk) ?_)
  refine gl_rbB h2 h3 h4 h6 (by rw [h1]; exact fun z => hb ((gl_leI hk b v).mp z)) ?_
  exact gl_rbA h3 (by rw [h1]; exact gl_start hk v) h
theorem gl_belN {post : Int32 → Prop} {k : Nat} {v b : Int32} (hk : k < 8) (h1 : a1 1 = gl_P (nI k) v) (h3 : a3 1 = 0)
    (hb : b ≤ v) (h : post 0) : wpX_below post (1, fn, de, fl, ce, sb, sa, en, a1, a2, a3, a4, a5, a6, a7, a8, a9, a10, a11, a12, a13, a14) (nI k) b := by
  unfold wpX_below wpX_placeOf
  refine br_f (nI_pos (by omega)) (br_t (gl_l7 hk) ?_)
  refine gl_rbA h3 (by rw [h1]; exact (gl_leI hk b v).mpr hb) ?_
  exact gl_rbA h3 (by rw [h1]; exact gl_start hk v) h
theorem gl_n7' {key : Int32} (hk : key < 0 ∨ 7 < key) (g : ¬ key < 0) : ¬ key ≤ 7 := Int32.not_le.mpr (hk.resolve_left g)
theorem gl_belO {post : Int32 → Prop} {key b : Int32} (hk : key < 0 ∨ 7 < key) (h : post 0) : wpX_below post (ro, fn, de, fl, ce, sb, sa, en, a1, a2, a3, a4, a5, a6, a7, a8, a9, a10, a11, a12, a13, a14) key b := by
  unfold wpX_below
  exact br_c (fun _ => h) (fun g => br_f (gl_n7' hk g) h)
theorem gl_lim1 {post : Int32 → St2 → Prop} {p q : Int32} (h : post (-1) (ro, fn, de, fl, ce, sb, sa, 1, a1, a2, a3, a4, a5, a6, a7, a8, a9, a10, a11, a12, a13, a14)) : wpX_limits post (ro, fn, de, fl, ce, sb, sa, 1, a1, a2, a3, a4, a5, a6, a7, a8, a9, a10, a11, a12, a13, a14) p q := by
  unfold wpX_limits
  exact br_f (by decide) h
theorem gl_lim67 {post : Int32 → St2 → Prop} {x3 x4 x5 x6 : Int32} (H : ∀ fl ce sb sa a10 a11, post 0 (0, fn, de, fl, ce, sb, sa, 0, a1, a2, a3, a4, a5, a6, a7, a8, a9, a10, a11, a12, a13, a14)) : ∃ n, wX_limits_67 post x3 x4 x5 x6 n 0 0 fn de fl ce sb sa 0 a1 a2 a3 a4 a5 a6 a7 a8 a9 a10 a11 a12 a13 a14 :=
  pk_loop (σ := Int32 × Int32 × Int32 × Int32 × (Nat → Int32) × (Nat → Int32)) (fun n i s => wX_limits_67 post x3 x4 x5 x6 n (nI i) 0 fn de s.1 s.2.1 s.2.2.1 s.2.2.2.1 0 a1 a2 a3 a4 a5 a6 a7 a8 a9 s.2.2.2.2.1 s.2.2.2.2.2 a12 a13 a14) (fun _ _ => True) 8 0 (fl, ce, sb, sa, a10, a11) (by omega) trivial
    (fun n s _ => br_t (by decide) (H _ _ _ _ _ _))
    (fun n i s hi _ hw => br_f (nI_ge (b := 8) hi (by decide)) (gl_note0 (fun s1 t => gl_log00 (fun s2 => nm_r (nI_1 i) (hw (x3, x4, 0, 0, t, s2) trivial)))))
theorem gl_lim29 {post : Int32 → St2 → Prop} {x z : Int32} (H : ∀ fl ce sb sa a10 a11, post 0 (0, fn, de, fl, ce, sb, sa, 0, a1, a2, a3, a4, a5, a6, a7, a8, a9, a10, a11, a12, a13, a14)) : wX_limits_29 post x z 0 fn de fl ce sb sa 0 a1 a2 a3 a4 a5 a6 a7 a8 a9 a10 a11 a12 a13 a14 := by
  unfold wX_limits_29 wX_limits_50
  exact br_c (fun _ => br_c (fun _ => gl_lim67 H) (fun _ => gl_lim67 H)) (fun _ => gl_lim67 H)
theorem gl_lim0 {post : Int32 → St2 → Prop} {p q : Int32} (H : ∀ fl ce sb sa a10 a11, post 0 (0, fn, de, fl, ce, sb, sa, 0, a1, a2, a3, a4, a5, a6, a7, a8, a9, a10, a11, a12, a13, a14)) : wpX_limits post (0, fn, de, fl, ce, sb, sa, 0, a1, a2, a3, a4, a5, a6, a7, a8, a9, a10, a11, a12, a13, a14) p q := by
  unfold wpX_limits
  exact br_t (by decide) (br_c (fun _ => br_c (fun _ => gl_lim29 H) (fun _ => gl_lim29 H)) (fun _ => gl_lim29 H))
theorem gl_remO {post : Int32 → St2 → Prop} {key b : Int32} (hk : key < 0 ∨ 7 < key) (H : post (-1) (ro, fn, de, fl, ce, sb, sa, en, a1, a2, a3, a4, a5, a6, a7, a8, a9, a10, a11, a12, a13, a14)) : wpX_remove post (ro, fn, de, fl, ce, sb, sa, en, a1, a2, a3, a4, a5, a6, a7, a8, a9, a10, a11, a12, a13, a14) key b := by
  unfold wpX_remove
  exact br_c (fun _ => H) (fun g => br_t (hk.resolve_left g) H)
theorem gl_remN {post : Int32 → St2 → Prop} {k : Nat} {v b : Int32} (hk : k < 8) (h1 : a1 1 = gl_P (nI k) v) (h3 : a3 1 = 0) (h4 : a4 1 = 0)
    (hb : ¬ v = b) (H : post (-1) (1, fn, de, fl, ce, sb, sa, 1, a1, a2, a3, a4, a5, a6, a7, a8, a9, a10, a11, a12, a13, a14)) : wpX_remove post (1, fn, de, fl, ce, sb, sa, 1, a1, a2, a3, a4, a5, a6, a7, a8, a9, a10, a11, a12, a13, a14) (nI k) b := by
  unfold wpX_remove wpX_placeOf
  refine br_f (nI_pos (by omega)) (br_f (gl_n7 hk) (br_t (by decide) ?_))
  exact gl_toN h3 h4 (by rw [h1]; exact fun z => hb ((gl_eqI hk v b).mp z)) (br_t rfl H)
theorem gl_remY {post : Int32 → St2 → Prop} {k : Nat} {v b : Int32} (hk : k < 8) (h1 : a1 1 = gl_P (nI k) v) (h2 : a2 1 = 1) (h3 : a3 1 = 0) (h4 : a4 1 = 0) (h6 : a6 0 = 0) (h7 : a7 0 = 0)
    (hb : v = b) (H : ∀ u, post 0 u) : wpX_remove post (1, fn, de, 1, 40, sb, sa, 1, a1, a2, a3, a4, a5, a6, a7, a8, a9, a10, a11, a12, a13, a14) (nI k) b := by
  subst hb
  unfold wpX_remove wpX_placeOf
  refine br_f (nI_pos (by omega)) (br_f (gl_n7 hk) (br_t (by decide) ?_))
  refine gl_toY h2 h1 (br_f (by decide) ?_)
  refine gl_note1 h2 h3 h4 h6 h7 (by rw [h1]; exact gl_start hk v) (by rw [h1]; exact gl_end hk v) (fun s t => ?_)
  refine gl_drop h1 h2 h3 h4 (fun r9 => ?_)
  refine gl_log10 (fun s1 s2 s3 s4 => ⟨gl_v0, ?_⟩)
  exact ek_v (P := fun r => post r _) (show a6 0 = 0 from h6) (H _)
end
end
section
/-! ===== the law, from its end: a key in bounds ===== -/
section
variable {ro fn de fl ce sb sa en : Int32} {a1 : Nat → Int64} {a2 a3 a4 a5 a6 a7 a8 a9 a10 a11 a12 a13 a14 : Nat → Int32}
variable {mc ms kc ks : Nat} {x3 b v z : Int32} {k : Nat}
theorem gl_y142 (hk : k < 8) (o : gl_one (nI k) (gl_P (nI k) v) a1 a2 a3 a4 a6 a7 a12 a13) : wL_lawOf_142 (fun r _ => r = 1) mc ms (nI k) v b 1 z z kc ks 1 fn de 1 40 sb sa 1 a1 a2 a3 a4 a5 a6 a7 a8 a9 a10 a11 a12 a13 a14 := by
  obtain ⟨h1, h2, h3, h4, h6, h7, h12, h13⟩ := o
  unfold wL_lawOf_142
  refine br_t rfl ?_
  by_cases e : v = b
  · refine gl_remY hk h1 h2 h3 h4 h6 h7 e (fun u => ?_)
    refine br_f (by decide) (br_t e ?_)
    unfold wL_lawOf_169
    exact br_t rfl rfl
  · refine gl_remN hk h1 h3 h4 e ?_
    refine br_f (by decide) (br_f e ?_)
    unfold wL_lawOf_168 wL_lawOf_169
    exact br_t rfl rfl
theorem gl_y120 (hk : k < 8) (o : gl_one (nI k) (gl_P (nI k) v) a1 a2 a3 a4 a6 a7 a12 a13) : wL_lawOf_120 (fun r _ => r = 1) mc ms (nI k) v b x3 1 z z kc ks 1 fn de 1 40 sb sa 1 a1 a2 a3 a4 a5 a6 a7 a8 a9 a10 a11 a12 a13 a14 := by
  unfold wL_lawOf_120
  refine br_t rfl ?_
  exact gl_lim1 (br_f (by decide) (gl_y142 hk o))
theorem gl_y93 (hk : k < 8) (o : gl_one (nI k) (gl_P (nI k) v) a1 a2 a3 a4 a6 a7 a12 a13) : wL_lawOf_93 (fun r _ => r = 1) mc ms (nI k) v b x3 1 z z kc ks 1 fn de 1 40 sb sa 1 a1 a2 a3 a4 a5 a6 a7 a8 a9 a10 a11 a12 a13 a14 := by
  have o' := o
  obtain ⟨h1, h2, h3, h4, h6, h7, h12, h13⟩ := o'
  unfold wL_lawOf_93
  refine br_t rfl ?_
  by_cases e : b ≤ v
  · refine gl_belN hk h1 h3 e (br_f (by decide) (br_t e ?_))
    unfold wL_lawOf_119
    exact gl_y120 hk o
  · exact gl_belY hk h1 h2 h3 h4 h6 e (br_f (by decide) (br_f e (gl_y120 hk o)))
theorem gl_y68 (hk : k < 8) (o : gl_one (nI k) (gl_P (nI k) v) a1 a2 a3 a4 a6 a7 a12 a13) : wL_lawOf_68 (fun r _ => r = 1) mc ms (nI k) v b x3 1 z z kc ks 1 fn de 1 40 sb sa 1 a1 a2 a3 a4 a5 a6 a7 a8 a9 a10 a11 a12 a13 a14 := by
  have h13 : a13 0 = nI k := o.2.2.2.2.2.2.2
  unfold wL_lawOf_68
  refine br_t rfl ?_
  by_cases e : x3 = 0
  · refine gl_keyY e ?_
    rw [h13]
    exact br_f (by decide) (br_t e (gl_y93 hk o))
  · refine gl_keyN e (br_f (by decide) (br_f e ?_))
    unfold wL_lawOf_92
    exact gl_y93 hk o
theorem gl_y43 (hk : k < 8) (o : gl_one (nI k) (gl_P (nI k) v) a1 a2 a3 a4 a6 a7 a12 a13) : wL_lawOf_43 (fun r _ => r = 1) mc ms (nI k) v b x3 1 z z kc ks 1 fn de 1 40 sb sa 1 a1 a2 a3 a4 a5 a6 a7 a8 a9 a10 a11 a12 a13 a14 := by
  have h12 : a12 0 = 2 := o.2.2.2.2.2.2.1
  unfold wL_lawOf_43
  refine br_t rfl ?_
  by_cases e : x3 = 0
  · refine gl_sortY e ?_
    rw [h12]
    exact br_f (by decide) (br_t e (gl_y68 hk o))
  · refine gl_sortN e (br_f (by decide) (br_f e ?_))
    unfold wL_lawOf_67
    exact gl_y68 hk o
theorem gl_y24 (hk : k < 8) (h6 : a6 0 = 0) (h7 : a7 0 = 0) : wL_lawOf_24 (fun r _ => r = 1) mc ms (nI k) v b x3 1 kc ks 0 1 de 1 40 sb sa 0 a1 a2 a3 a4 a5 a6 a7 a8 a9 a10 a11 a12 a13 a14 := by
  unfold wL_lawOf_24
  exact gl_ins hk h6 h7 (fun fn a1 a2 a3 a4 a5 a6 a7 a8 a9 a10 a11 a12 a13 a14 o => br_f (by decide) (gl_y43 hk o))
end
/-! ===== the law: a key out of bounds ===== -/
section
variable {ro fn de fl ce sb sa en : Int32} {a1 : Nat → Int64} {a2 a3 a4 a5 a6 a7 a8 a9 a10 a11 a12 a13 a14 : Nat → Int32}
variable {mc ms kc ks : Nat} {x3 b v z key : Int32}
theorem gl_n142 (hk : key < 0 ∨ 7 < key) : wL_lawOf_142 (fun r _ => r = 1) mc ms key v b 0 z z kc ks ro fn de fl ce sb sa en a1 a2 a3 a4 a5 a6 a7 a8 a9 a10 a11 a12 a13 a14 := by
  unfold wL_lawOf_142
  refine br_t rfl ?_
  refine gl_remO hk (br_t rfl ?_)
  unfold wL_lawOf_168 wL_lawOf_169
  exact br_t rfl rfl
theorem gl_n120 (hk : key < 0 ∨ 7 < key) : wL_lawOf_120 (fun r _ => r = 1) mc ms key v b x3 0 z z kc ks 0 fn de fl ce sb sa 0 a1 a2 a3 a4 a5 a6 a7 a8 a9 a10 a11 a12 a13 a14 := by
  unfold wL_lawOf_120
  refine br_t rfl ?_
  exact gl_lim0 (fun fl ce sb sa a10 a11 => br_t rfl (gl_n142 hk))
theorem gl_n93 (hk : key < 0 ∨ 7 < key) : wL_lawOf_93 (fun r _ => r = 1) mc ms key v b x3 0 z z kc ks 0 fn de fl ce sb sa 0 a1 a2 a3 a4 a5 a6 a7 a8 a9 a10 a11 a12 a13 a14 := by
  unfold wL_lawOf_93
  refine br_t rfl ?_
  refine gl_belO hk (br_t rfl ?_)
  unfold wL_lawOf_119
  exact gl_n120 hk
theorem gl_n68 (hk : key < 0 ∨ 7 < key) : wL_lawOf_68 (fun r _ => r = 1) mc ms key v b x3 0 z z kc ks 0 fn de fl ce sb sa 0 a1 a2 a3 a4 a5 a6 a7 a8 a9 a10 a11 a12 a13 a14 := by
  unfold wL_lawOf_68
  refine br_t rfl ?_
  refine gl_key0 (br_t rfl ?_)
  unfold wL_lawOf_92
  exact gl_n93 hk
theorem gl_n43 (hk : key < 0 ∨ 7 < key) : wL_lawOf_43 (fun r _ => r = 1) mc ms key v b x3 0 z z kc ks 0 fn de fl ce sb sa 0 a1 a2 a3 a4 a5 a6 a7 a8 a9 a10 a11 a12 a13 a14 := by
  unfold wL_lawOf_43
  refine br_t rfl ?_
  refine gl_sort0 (br_t rfl ?_)
  unfold wL_lawOf_67
  exact gl_n68 hk
theorem gl_n23 (hk : key < 0 ∨ 7 < key) : wL_lawOf_23 (fun r _ => r = 1) mc ms key v b x3 kc ks 0 fn de fl ce sb sa 0 a1 a2 a3 a4 a5 a6 a7 a8 a9 a10 a11 a12 a13 a14 := by
  unfold wL_lawOf_23 wL_lawOf_24
  exact gl_insN hk (br_t rfl (gl_n43 hk))
end
/-! ===== the whole ===== -/
theorem gl_lawOf (key v b p : Int32) : wpL_lawOf (fun r _ => r = 1) 338 5408 () key v b p := by
  unfold wpL_lawOf
  refine ⟨by decide, by decide, 337, 5386, by decide, by decide, ?_⟩
  refine gl_init (fun s => ?_)
  refine br_c (fun g => gl_n23 (Or.inl g)) (fun g => br_c (fun h => gl_n23 (Or.inr h)) (fun h => ?_))
  obtain ⟨k, hk, rfl⟩ := gl_key g h
  exact gl_y24 hk rfl rfl
theorem gl_cell {post : Int32 → Prop} {L : Nat} {xs : Nat → Int32} {x : Int32} (n : Nat) (hL : L ≤ 4) (hn : n < 4) (hx : x = nI n) (H : ∀ r, post r) : wpL_cellAt post L xs () x := by
  subst hx
  unfold wpL_cellAt
  refine br_c (fun _ => H _) (fun g => ⟨?_, H _⟩)
  have hl : n < L := by
    rcases Nat.lt_or_ge n L with z | z
    · exact z
    · exact absurd (nI_le z (by omega)) g
  exact vp_in_nI hl (by omega)
end
section
theorem i_vc (xs : Nat → Int32) (L : Nat) (hL : L ≤ 4) : wpL_law (fun r => r = 1) L xs := by
  unfold wpL_law
  refine gl_cell 0 hL (by decide) rfl (fun r1 => ?_)
  refine gl_cell 1 hL (by decide) rfl (fun r2 => ?_)
  refine gl_cell 2 hL (by decide) rfl (fun r3 => ?_)
  refine gl_cell 3 hL (by decide) rfl (fun r4 => ?_)
  exact ⟨338, 5408, by decide, by decide, gl_lawOf r1 r2 r3 r4⟩
end

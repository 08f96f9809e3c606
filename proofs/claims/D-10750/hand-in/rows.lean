section
/-- the array kind: node 0 is a leaf, all others are not there -/
def tc_K (a : Nat → Int32) : Prop := a 0 = 1 ∧ ∀ j, 0 < j → j < 31 → a j = 0
theorem tc_n2 {a : Nat → Int32} {j : Nat} (hk : tc_K a) (hj : j < 31) : ¬ a j = 2 := by
  by_cases e : j = 0
  · rw [e, hk.1]; decide
  · rw [hk.2 j (by omega) hj]; decide
theorem tc_up {a : Nat → Int32} {i : Nat} {x v : Int32} (hi : i < 2 ^ 31) (h : 0 < i → a 0 = v) (hx : i = 0 → x = v) : upd a (nI i).toNatClampNeg x 0 = v := by
  rw [nI_clamp hi]
  by_cases e : i = 0
  · rw [e, pk_us]; exact hx e
  · rw [pk_un (fun z => e z.symm)]; exact h (by omega)
theorem tc_c0 : (0 : Int32).toNatClampNeg = 0 := by decide
theorem tc_cell {post : Int32 → Prop} {L : Nat} {xs : Nat → Int32} (k : Nat) (hk : k < 4) (hL : L ≤ 4) (H : ∀ r, post r) : wpL_cellAt post L xs () (nI k) :=
  pk_le L k (fun _ => H _) (fun z => ⟨pk_in k L z, H _⟩)
section
variable {jc tp lv ct st oF oS oG oH : Int32} {a1 a2 a3 a4 a5 a6 a7 a8 a9 a10 a11 a12 a13 a14 a15 a16 a17 a18 a19 a20 a21 a22 a23 a24 : Nat → Int32}
theorem tc_kind {post : Int32 → Prop} {p0 : Int32} (hk : tc_K a1) (h0 : p0 = 0 → post 1) (h1 : ¬ p0 = 0 → post 0) : wpX_kindOf post (jc, tp, lv, ct, st, oF, oS, oG, oH, a1, a2, a3, a4, a5, a6, a7, a8, a9, a10, a11, a12, a13, a14, a15, a16, a17, a18, a19, a20, a21, a22, a23, a24) p0 := by
  refine br_c (fun z => h1 (fun e => ?_)) (fun z => br_c (fun g => ?_) (fun g => h1 (fun e => ?_)))
  · rw [e] at z
    exact absurd z (by decide)
  · obtain ⟨j, hj, e⟩ := nI_of2 (M := 30) (n := 30) (by decide) z g
    refine ⟨pk_in j 31 (by omega) e, ?_⟩
    rw [e, nI_clamp (by omega)]
    by_cases hj0 : j = 0
    · rw [hj0, hk.1]
      exact h0 (by rw [e, hj0]; rfl)
    · rw [hk.2 j (by omega) (by omega)]
      exact h1 (by rw [e]; exact nI_ne0 (by omega) (by omega))
  · rw [e] at g
    exact g (by decide)
theorem tc_turn {post : Int32 → St2 → Prop} {p0 : Int32} (hk : tc_K a1) (H : post (-1) (jc, tp, lv, ct, st, oF, oS, oG, oH, a1, a2, a3, a4, a5, a6, a7, a8, a9, a10, a11, a12, a13, a14, a15, a16, a17, a18, a19, a20, a21, a22, a23, a24)) : wpX_turn post (jc, tp, lv, ct, st, oF, oS, oG, oH, a1, a2, a3, a4, a5, a6, a7, a8, a9, a10, a11, a12, a13, a14, a15, a16, a17, a18, a19, a20, a21, a22, a23, a24) p0 := by
  unfold wpX_turn
  exact tc_kind hk (fun _ => br_f (by decide) H) (fun _ => br_f (by decide) H)
theorem tc_sort {post : Int32 → St2 → Prop} {p0 p1 : Int32} (hk : tc_K a1) (H : post (-1) (jc, tp, lv, ct, st, oF, oS, oG, oH, a1, a2, a3, a4, a5, a6, a7, a8, a9, a10, a11, a12, a13, a14, a15, a16, a17, a18, a19, a20, a21, a22, a23, a24)) : wpX_setSort post (jc, tp, lv, ct, st, oF, oS, oG, oH, a1, a2, a3, a4, a5, a6, a7, a8, a9, a10, a11, a12, a13, a14, a15, a16, a17, a18, a19, a20, a21, a22, a23, a24) p0 p1 := by
  unfold wpX_setSort
  exact tc_kind hk (fun _ => br_f (by decide) H) (fun _ => br_f (by decide) H)
theorem tc_shr {post : Int32 → St2 → Prop} {p0 : Int32} (hk : tc_K a1) (H : post (-1) (jc, tp, lv, ct, st, oF, oS, oG, oH, a1, a2, a3, a4, a5, a6, a7, a8, a9, a10, a11, a12, a13, a14, a15, a16, a17, a18, a19, a20, a21, a22, a23, a24)) : wpX_shrink post (jc, tp, lv, ct, st, oF, oS, oG, oH, a1, a2, a3, a4, a5, a6, a7, a8, a9, a10, a11, a12, a13, a14, a15, a16, a17, a18, a19, a20, a21, a22, a23, a24) p0 := by
  unfold wpX_shrink
  exact tc_kind hk (fun _ => br_f (by decide) H) (fun _ => br_f (by decide) H)
theorem tc_set {post : Int32 → St2 → Prop} {p0 p1 : Int32} (hk : tc_K a1) (hc : ct = 0) (h0 : p0 = 0 → post 0 (jc, tp, lv, ct, st, oF, oS, oG, oH, a1, a2, (upd a3 0 p1), a4, a5, a6, a7, a8, a9, a10, a11, a12, a13, a14, a15, a16, a17, a18, a19, a20, a21, a22, a23, a24)) (h1 : ¬ p0 = 0 → post (-1) (jc, tp, lv, ct, st, oF, oS, oG, oH, a1, a2, a3, a4, a5, a6, a7, a8, a9, a10, a11, a12, a13, a14, a15, a16, a17, a18, a19, a20, a21, a22, a23, a24)) : wpX_set post (jc, tp, lv, ct, st, oF, oS, oG, oH, a1, a2, a3, a4, a5, a6, a7, a8, a9, a10, a11, a12, a13, a14, a15, a16, a17, a18, a19, a20, a21, a22, a23, a24) p0 p1 := by
  unfold wpX_set
  exact tc_kind hk (fun z => br_t rfl ⟨pk_in 0 31 (by omega) z, nm_r (by rw [z, tc_c0]) (br_t hc (h0 z))⟩) (fun z => br_f (by decide) (h1 z))
theorem tc_link {post : St2 → Prop} (hk : tc_K a1) (H : ∀ b8, post (jc, tp, lv, ct, st, oF, oS, oG, oH, a1, a2, a3, a4, a5, a6, a7, b8, a9, a10, a11, a12, a13, a14, a15, a16, a17, a18, a19, a20, a21, a22, a23, a24)) : wpX_linkParents post (jc, tp, lv, ct, st, oF, oS, oG, oH, a1, a2, a3, a4, a5, a6, a7, a8, a9, a10, a11, a12, a13, a14, a15, a16, a17, a18, a19, a20, a21, a22, a23, a24) :=
  fun b8 _ => pk_loop (σ := Unit) (fun n i _ => wX_linkParents_9 post jc tp lv ct st oF oS oG oH n (nI i) a1 a2 a3 a4 a5 a6 a7 b8 a9 a10 a11 a12 a13 a14 a15 a16 a17 a18 a19 a20 a21 a22 a23 a24) (fun _ _ => True) 31 0 () (by omega) trivial
    (fun n _ _ => pk_le 31 31 (fun _ => H b8) (fun z => absurd z (by omega)))
    (fun n i _ hi _ hw => pk_le 31 i (fun z => absurd z (by omega)) (fun _ => ⟨pk_in i 31 hi, br_f (by rw [nI_clamp (by omega)]; exact tc_n2 hk hi) (nm_r (nI_1 i) (hw () trivial))⟩))
theorem tc_c88 {post : St2 → Prop} (hk : tc_K a1) (H : post (jc, 0, lv, ct, st, oF, oS, oG, oH, a1, a2, a3, a4, a5, a6, a7, a8, a9, a10, a11, a12, a13, a14, a15, a16, a17, a18, a19, a20, a21, a22, a23, a24)) : ∃ n, wX_contract_88 post n 0 jc 0 lv ct st oF oS oG oH a1 a2 a3 a4 a5 a6 a7 a8 a9 a10 a11 a12 a13 a14 a15 a16 a17 a18 a19 a20 a21 a22 a23 a24 :=
  ⟨1, pk_le 16 0 (fun z => absurd z (by omega)) (fun _ => ⟨pk_in 0 31 (by omega), br_f (by rw [tc_c0]; exact tc_n2 hk (by omega)) H⟩)⟩
theorem tc_c25 {post : St2 → Prop} (hk : tc_K a1) (H : ∀ b6 b7 b8 b9 b12 b13 : Nat → Int32, b9 0 = 0 → b12 0 = 1 → post (jc, 0, lv, 1, 0, oF, oS, oG, oH, a1, a2, a3, a4, a5, b6, b7, b8, b9, a10, a11, b12, b13, a14, a15, a16, a17, a18, a19, a20, a21, a22, a23, a24)) : ∃ n, wX_contract_25 post jc 0 lv 1 0 oF oS oG oH n 0 a1 a2 a3 a4 a5 a6 a7 a8 a9 a10 a11 a12 a13 a14 a15 a16 a17 a18 a19 a20 a21 a22 a23 a24 :=
  pk_loop (σ := (Nat → Int32) × (Nat → Int32) × (Nat → Int32) × (Nat → Int32) × (Nat → Int32)) (fun n i s => wX_contract_25 post jc 0 lv 1 0 oF oS oG oH n (nI i) a1 a2 a3 a4 a5 s.1 s.2.1 a8 s.2.2.1 a10 a11 s.2.2.2.1 s.2.2.2.2 a14 a15 a16 a17 a18 a19 a20 a21 a22 a23 a24) (fun i s => 0 < i → (s.2.2.1 0 = 0 ∧ s.2.2.2.1 0 = 1)) 31 0 (a6, a7, a9, a12, a13) (by omega) (fun z => absurd z (by omega))
    (fun n s h => pk_le 31 31 (fun _ => tc_link hk (fun b8 => tc_c88 hk (H _ _ b8 _ _ _ (h (by omega)).1 (h (by omega)).2))) (fun z => absurd z (by omega)))
    (fun n i s hi h hw => pk_le 31 i (fun z => absurd z (by omega)) (fun _ => ⟨pk_in i 31 hi, pk_in i 31 hi, nm_e ⟨pk_in i 31 hi, pk_in i 31 hi, nm_e ⟨pk_in i 31 hi, nm_e ⟨pk_in i 46 (by omega), nm_e ⟨pk_in i 46 (by omega), nm_e (nm_r (nI_1 i) (hw (_, _, _, _, _) (fun _ => ⟨tc_up (by omega) (fun z => (h z).1) (fun z => by rw [z]; rfl), tc_up (by omega) (fun z => (h z).2) (fun _ => rfl)⟩)))⟩⟩⟩⟩⟩))
theorem tc_con {post : St2 → Prop} (hk : tc_K a1) (H0 : ct = 0 → ∀ b6 b7 b8 b9 b12 b13 : Nat → Int32, b9 0 = 0 → b12 0 = 1 → post (jc, 0, lv, 1, 0, oF, oS, oG, oH, a1, a2, a3, a4, a5, b6, b7, b8, b9, a10, a11, b12, b13, a14, a15, a16, a17, a18, a19, a20, a21, a22, a23, a24)) (H1 : ¬ ct = 0 → post (jc, tp, lv, ct, st, oF, oS, oG, oH, a1, a2, a3, a4, a5, a6, a7, a8, a9, a10, a11, a12, a13, a14, a15, a16, a17, a18, a19, a20, a21, a22, a23, a24)) : wpX_contract post (jc, tp, lv, ct, st, oF, oS, oG, oH, a1, a2, a3, a4, a5, a6, a7, a8, a9, a10, a11, a12, a13, a14, a15, a16, a17, a18, a19, a20, a21, a22, a23, a24) :=
  br_c (fun z => tc_c25 hk (H0 z)) H1
end
end
section
section
variable {jc tp lv ct st oF oS oG oH : Int32} {a1 a2 a3 a4 a5 a6 a7 a8 a9 a10 a11 a12 a13 a14 a15 a16 a17 a18 a19 a20 a21 a22 a23 a24 : Nat → Int32}
theorem tc_s45 {post : Int32 → St2 → Prop} (h9 : a9 0 = 0) (h12 : a12 0 = 1) (h14 : a14 0 = 0) (h15 : a15 0 = 0) (H : post 1 (jc, 0, lv, ct, 0, oF, oS, oG, oH, a1, a2, a3, a4, a5, a6, a7, a8, a9, a10, a11, a12, a13, a14, a15, a16, a17, a18, a19, a20, a21, a22, a23, a24)) : ∃ n, wX_slope_45 post 0 n 0 jc 0 lv ct 0 oF oS oG oH a1 a2 a3 a4 a5 a6 a7 a8 a9 a10 a11 a12 a13 a14 a15 a16 a17 a18 a19 a20 a21 a22 a23 a24 := by
  have e : a14 (0 : Int32).toNatClampNeg * a3 (0 : Int32).toNatClampNeg + a12 (0 : Int32).toNatClampNeg + a15 (0 : Int32).toNatClampNeg = 1 := by
    rw [tc_c0, h12, h14, h15]; grind
  refine ⟨1, pk_le 0 0 (fun _ => ⟨pk_in 0 31 (by omega), nm_r (e' := 0) (by rw [tc_c0]; exact h9) (br_t rfl ⟨pk_in 0 46 (by omega), pk_in 0 46 (by omega), pk_in 0 31 (by omega), pk_in 0 46 (by omega), ?_⟩)⟩) (fun z => absurd z (by omega))⟩
  exact ek_v (P := fun r => post r (jc, 0, lv, ct, 0, oF, oS, oG, oH, a1, a2, a3, a4, a5, a6, a7, a8, a9, a10, a11, a12, a13, a14, a15, a16, a17, a18, a19, a20, a21, a22, a23, a24)) e H
theorem tc_s17 {post : Int32 → St2 → Prop} (h9 : a9 0 = 0) (h12 : a12 0 = 1) (H : ∀ b14 b15 : Nat → Int32, post 1 (jc, 0, lv, ct, 0, oF, oS, oG, oH, a1, a2, a3, a4, a5, a6, a7, a8, a9, a10, a11, a12, a13, b14, b15, a16, a17, a18, a19, a20, a21, a22, a23, a24)) : ∃ n, wX_slope_17 post 0 jc 0 lv ct 0 oF oS oG oH n 0 a1 a2 a3 a4 a5 a6 a7 a8 a9 a10 a11 a12 a13 a14 a15 a16 a17 a18 a19 a20 a21 a22 a23 a24 :=
  pk_loop (σ := (Nat → Int32) × (Nat → Int32)) (fun n i s => wX_slope_17 post 0 jc 0 lv ct 0 oF oS oG oH n (nI i) a1 a2 a3 a4 a5 a6 a7 a8 a9 a10 a11 a12 a13 s.1 s.2 a16 a17 a18 a19 a20 a21 a22 a23 a24) (fun i s => 0 < i → (s.1 0 = 0 ∧ s.2 0 = 0)) 46 0 (a14, a15) (by omega) (fun z => absurd z (by omega))
    (fun n s h => pk_le 46 46 (fun _ => tc_s45 h9 h12 (h (by omega)).1 (h (by omega)).2 (H _ _)) (fun z => absurd z (by omega)))
    (fun n i s hi h hw => pk_le 46 i (fun z => absurd z (by omega)) (fun _ => ⟨pk_in i 46 hi, nm_e ⟨pk_in i 46 hi, nm_e (nm_r (nI_1 i) (hw (_, _) (fun _ => ⟨tc_up (by omega) (fun z => (h z).1) (fun _ => rfl), tc_up (by omega) (fun z => (h z).2) (fun _ => rfl)⟩)))⟩⟩))
theorem tc_slope {post : Int32 → St2 → Prop} {p0 : Int32} (hk : tc_K a1) (hc : ct = 0) (h0 : p0 = 0 → ∀ b6 b7 b8 b9 b12 b13 b14 b15 : Nat → Int32, post 1 (jc, 0, lv, 1, 0, oF, oS, oG, oH, a1, a2, a3, a4, a5, b6, b7, b8, b9, a10, a11, b12, b13, b14, b15, a16, a17, a18, a19, a20, a21, a22, a23, a24)) (h1 : ¬ p0 = 0 → post 0 (jc, tp, lv, ct, st, oF, oS, oG, oH, a1, a2, a3, a4, a5, a6, a7, a8, a9, a10, a11, a12, a13, a14, a15, a16, a17, a18, a19, a20, a21, a22, a23, a24)) : wpX_slope post (jc, tp, lv, ct, st, oF, oS, oG, oH, a1, a2, a3, a4, a5, a6, a7, a8, a9, a10, a11, a12, a13, a14, a15, a16, a17, a18, a19, a20, a21, a22, a23, a24) p0 := by
  unfold wpX_slope
  refine tc_kind hk (fun z => br_t rfl ?_) (fun z => br_f (by decide) (h1 z))
  refine tc_con hk (fun _ b6 b7 b8 b9 b12 b13 h9 h12 => ?_) (fun g => absurd hc g)
  subst z
  exact tc_s17 h9 h12 (fun b14 b15 => h0 rfl b6 b7 b8 b9 b12 b13 b14 b15)
theorem tc_v24 {post : Int32 → St2 → Prop} (hk : tc_K a1) (H : post (a3 0) (jc, tp, lv, ct, st, oF, oS, oG, oH, a1, a2, a3, a4, a5, a6, a7, a8, a9, a10, a11, a12, a13, a14, a15, a16, a17, a18, a19, a20, a21, a22, a23, a24)) : ∃ n, wX_value_24 post jc tp lv ct st oF oS oG oH n 0 0 0 a1 a2 a3 a4 a5 a6 a7 a8 a9 a10 a11 a12 a13 a14 a15 a16 a17 a18 a19 a20 a21 a22 a23 a24 :=
  ⟨1, pk_le 16 0 (fun z => absurd z (by omega)) (fun _ => ⟨pk_in 0 31 (by omega), br_f (by rw [tc_c0]; exact tc_n2 hk (by omega)) ⟨pk_in 0 31 (by omega), nm_r (by rw [tc_c0]) (nm_e ⟨1, br_t (by decide) H⟩)⟩⟩)⟩
theorem tc_value {post : Int32 → St2 → Prop} {p0 : Int32} (hk : tc_K a1) (h0 : p0 = 0 → ∀ (t c s : Int32) (b6 b7 b8 b9 b12 b13 : Nat → Int32), post (a3 0) (jc, t, lv, c, s, oF, oS, oG, oH, a1, a2, a3, a4, a5, b6, b7, b8, b9, a10, a11, b12, b13, a14, a15, a16, a17, a18, a19, a20, a21, a22, a23, a24)) (h1 : ¬ p0 = 0 → post 0 (jc, tp, lv, ct, st, oF, oS, oG, oH, a1, a2, a3, a4, a5, a6, a7, a8, a9, a10, a11, a12, a13, a14, a15, a16, a17, a18, a19, a20, a21, a22, a23, a24)) : wpX_value post (jc, tp, lv, ct, st, oF, oS, oG, oH, a1, a2, a3, a4, a5, a6, a7, a8, a9, a10, a11, a12, a13, a14, a15, a16, a17, a18, a19, a20, a21, a22, a23, a24) p0 := by
  unfold wpX_value
  refine tc_kind hk (fun z => br_f (by decide) ?_) (fun z => br_t rfl (h1 z))
  subst z
  exact tc_con hk (fun _ b6 b7 b8 b9 b12 b13 _ _ => tc_v24 hk (h0 rfl _ _ _ b6 b7 b8 b9 b12 b13)) (fun _ => tc_v24 hk (h0 rfl _ _ _ _ _ _ _ _ _))
end
end
section
section
variable {jc tp lv ct st oF oS oG oH : Int32} {a1 a2 a3 a4 a5 a6 a7 a8 a9 a10 a11 a12 a13 a14 a15 a16 a17 a18 a19 a20 a21 a22 a23 a24 : Nat → Int32}
variable {mc ms kc ks : Nat} {post : Int32 → St0 → Prop}
theorem tc_69 {x0 x2 x3 z0 z1 : Int32} (hk : tc_K a1) (hz : z1 = z0) (hp : post 1 ()) : wL_lawOf_69 post mc ms x0 x2 x3 z0 z1 kc ks jc tp lv ct st oF oS oG oH a1 a2 a3 a4 a5 a6 a7 a8 a9 a10 a11 a12 a13 a14 a15 a16 a17 a18 a19 a20 a21 a22 a23 a24 :=
  br_t hz (tc_turn hk (br_t rfl (tc_sort hk (br_t rfl (tc_shr hk (br_t rfl hp))))))
theorem tc_45 {x0 x1 x2 x3 z0 z1 : Int32} (hk : tc_K a1) (hz : z1 = z0) (hv : x0 = 0 → a3 0 = x1) (hw : ¬ x0 = 0 → a3 0 = 0) (hp : post 1 ()) : wL_lawOf_45 post mc ms x0 x1 x2 x3 z0 z1 kc ks jc tp lv ct st oF oS oG oH a1 a2 a3 a4 a5 a6 a7 a8 a9 a10 a11 a12 a13 a14 a15 a16 a17 a18 a19 a20 a21 a22 a23 a24 :=
  br_t hz (tc_value hk
    (fun g t c s b6 b7 b8 b9 b12 b13 => br_c (fun e => br_t g (tc_69 hk (hv e) hp)) (fun e => tc_69 hk (hw e) hp))
    (fun g => br_c (fun e => br_f g (tc_69 hk rfl hp)) (fun e => tc_69 hk rfl hp)))
theorem tc_25 {x0 x1 x2 x3 z0 z1 : Int32} (hk : tc_K a1) (hc : ct = 0) (hz : z1 = z0) (hv : x0 = 0 → a3 0 = x1) (hw : ¬ x0 = 0 → a3 0 = 0) (hp : post 1 ()) : wL_lawOf_25 post mc ms x0 x1 x2 x3 z0 z1 kc ks jc tp lv ct st oF oS oG oH a1 a2 a3 a4 a5 a6 a7 a8 a9 a10 a11 a12 a13 a14 a15 a16 a17 a18 a19 a20 a21 a22 a23 a24 :=
  br_t hz (tc_slope hk hc
    (fun e b6 b7 b8 b9 b12 b13 b14 b15 => br_t e (tc_45 hk rfl hv hw hp))
    (fun e => br_f e (tc_45 hk rfl hv hw hp)))
end
theorem tc_K0 : tc_K (upd (fun _ => 0) 0 1) := ⟨pk_us, fun j hj _ => by rw [pk_un (by omega)]⟩
theorem tc_lawOf {post : Int32 → St0 → Prop} {p0 p1 p2 p3 : Int32} (hp : post 1 ()) : wpL_lawOf post 25 726 () p0 p1 p2 p3 := by
  refine ⟨by omega, by omega, 24, 693, by omega, by omega, ?_⟩
  refine ⟨by omega, by omega, by omega, by omega, by omega, by omega, by omega, by omega, by omega, by omega, by omega, by omega, by omega, by omega, by omega, by omega, by omega, by omega, by omega, by omega, by omega, by omega, by omega, by omega, by omega, by omega, by omega, by omega, by omega, by omega, by omega, by omega, by omega, by omega, by omega, by omega, by omega, by omega, by omega, by omega, by omega, by omega, by omega, by omega, by omega, by omega, by omega, by omega, nm_e ?_⟩
  refine tc_set tc_K0 rfl (fun e => br_t e ?_) (fun e => br_f e ?_)
  · exact tc_25 tc_K0 rfl rfl (fun _ => pk_us) (fun g => absurd e g) hp
  · exact tc_25 tc_K0 rfl rfl (fun g => absurd g e) (fun _ => rfl) hp
theorem i_vc (xs : Nat → Int32) (L : Nat) (hL : L ≤ 4) : wpL_law (fun r => r = 1) L xs :=
  tc_cell 0 (by omega) hL (fun r1 => tc_cell 1 (by omega) hL (fun r2 => tc_cell 2 (by omega) hL (fun r3 => tc_cell 3 (by omega) hL (fun r4 => ⟨25, 726, by omega, by omega, tc_lawOf rfl⟩))))
end

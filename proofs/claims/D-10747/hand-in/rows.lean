section
/-- the class's test of a method's number -/
def ca_M (x : Int32) : Prop := ¬ x < 0 ∧ ¬ 16 ≤ x
/-- the class's test of class, name, marks -/
def ca_F (x y z : Int32) : Prop := ¬ x < 0 ∧ ¬ 8 ≤ x ∧ ¬ y < 0 ∧ ¬ 9 < y ∧ ¬ z < 0 ∧ z ≤ 15
/-- the class's test of derive -/
def ca_G (x y : Int32) : Prop := ¬ x < 0 ∧ ¬ 8 ≤ x ∧ ¬ y < -1 ∧ y < x
/-- the parents: every one that is there is a class -/
def ca_K (a : Nat → Int32) : Prop := ∀ j, j < 8 → 0 ≤ a j → vp_in (a j) 8
theorem ca_lit : (0 : Int32).toInt = 0 ∧ (7 : Int32).toInt = 7 ∧ (8 : Int32).toInt = 8 ∧ (15 : Int32).toInt = 15 ∧ (16 : Int32).toInt = 16 ∧ (-1 : Int32).toInt = -1 := by decide
theorem ca_78 {x : Int32} : 7 < x ↔ 8 ≤ x := by
  have l := ca_lit
  rw [Int32.lt_iff_toInt_lt, Int32.le_iff_toInt_le, l.2.1, l.2.2.1]
  omega
theorem ca_1516 {x : Int32} : 15 < x ↔ 16 ≤ x := by
  have l := ca_lit
  rw [Int32.lt_iff_toInt_lt, Int32.le_iff_toInt_le, l.2.2.2.1, l.2.2.2.2.1]
  omega
theorem ca_nle {x y : Int32} : ¬ x ≤ y ↔ y < x := by
  rw [Int32.lt_iff_toInt_lt, Int32.le_iff_toInt_le]
  omega
theorem ca_nlt {x y : Int32} : ¬ x < y ↔ y ≤ x := by
  rw [Int32.lt_iff_toInt_lt, Int32.le_iff_toInt_le]
  omega
theorem ca_m1 {x : Int32} (h : ¬ x < 0) : -1 < x := by
  have l := ca_lit
  rw [Int32.lt_iff_toInt_lt, l.1] at h
  rw [Int32.lt_iff_toInt_lt, l.2.2.2.2.2]
  omega
theorem ca_in8 {x : Int32} (h0 : ¬ x < 0) (h : ¬ 8 ≤ x) : vp_in x 8 := by
  have l := ca_lit
  rw [Int32.lt_iff_toInt_lt, l.1] at h0
  rw [Int32.le_iff_toInt_le, l.2.2.1] at h
  exact vp_in_iff.mpr ⟨by omega, by omega⟩
theorem ca_in16 {x : Int32} (h0 : ¬ x < 0) (h : ¬ 16 ≤ x) : vp_in x 16 := by
  have l := ca_lit
  rw [Int32.lt_iff_toInt_lt, l.1] at h0
  rw [Int32.le_iff_toInt_le, l.2.2.2.2.1] at h
  exact vp_in_iff.mpr ⟨by omega, by omega⟩
theorem ca_cl8 {x : Int32} (h0 : ¬ x < 0) (h : ¬ 8 ≤ x) : x.toNatClampNeg < 8 := by
  obtain ⟨j, hj, rfl⟩ := vp_in_of (ca_in8 h0 h) (by omega)
  rw [nI_clamp (by omega)]
  exact hj
theorem ca_K0 {a : Nat → Int32} (h : ∀ j, j < 8 → a j = -1) : ca_K a := by
  intro j hj h0
  rw [h j hj] at h0
  exact absurd h0 (by decide)
theorem ca_KU {a : Nat → Int32} {x y : Int32} (h : ca_K a) (h8 : ¬ 8 ≤ x) (hy : y < x) : ca_K (upd a x.toNatClampNeg y) := by
  intro j hj hz
  by_cases e : j = x.toNatClampNeg
  · rw [e, pk_us] at hz
    rw [e, pk_us]
    refine ca_in8 (ca_nlt.mpr hz) (fun w => h8 ?_)
    rw [Int32.le_iff_toInt_le] at w ⊢
    rw [Int32.lt_iff_toInt_lt] at hy
    omega
  · rw [pk_un e] at hz
    rw [pk_un e]
    exact h j hj hz
theorem ca_fill {s : Nat → Int32} {i k : Nat} {x : Int32} (hk : k = i) (h : ∀ j, j < i → s j = x) : ∀ j, j < i + 1 → upd s k x j = x := by
  intro j hj
  rw [hk]
  by_cases e : j = i
  · rw [e, pk_us]
  · rw [pk_un e]
    exact h j (by omega)
theorem ca_cell {post : Int32 → Prop} {L : Nat} {xs : Nat → Int32} {u : St0} (k : Nat) (hk : k < 6) (hL : L ≤ 6) (H : ∀ r, post r) : wpL_cellAt post L xs u (nI k) :=
  pk_le L k (fun _ => H _) (fun z => ⟨pk_in k L z, H _⟩)
end
section
section
variable {t h p d g : Int32} {a1 a2 a3 a4 a5 a6 a7 a8 a9 a10 a11 a12 a13 a14 a15 a16 a17 a19 : Nat → Int32} {a18 : Nat → Int64}
theorem ca_i158 {post : St2 → Prop} {mc ms kc ks : Nat} (H : ∀ b1 b2 : Nat → Int32, (∀ j, j < 8 → b1 j = -1) → post (t, h, p, d, g, b1, b2, a3, a4, a5, a6, a7, a8, a9, a10, a11, a12, a13, a14, a15, a16, a17, a18, a19)) : ∃ n, wX_init_158 post mc ms kc ks t h p d g n 0 a1 a2 a3 a4 a5 a6 a7 a8 a9 a10 a11 a12 a13 a14 a15 a16 a17 a18 a19 :=
  pk_loop (fun n i (s : (Nat → Int32) × (Nat → Int32)) => wX_init_158 post mc ms kc ks t h p d g n (nI i) s.1 s.2 a3 a4 a5 a6 a7 a8 a9 a10 a11 a12 a13 a14 a15 a16 a17 a18 a19) (fun i s => ∀ j, j < i → s.1 j = -1) 8 0 (a1, a2) (by omega) (fun j hj => absurd hj (by omega))
    (fun n s hs => pk_le 8 8 (fun _ => H s.1 s.2 hs) (fun z => absurd z (by omega)))
    (fun n i s hi hs hw => pk_le 8 i (fun z => absurd z (by omega)) (fun _ => ⟨pk_in i 8 hi, nm_e ⟨pk_in i 8 hi, nm_e (nm_r (nI_1 i) (hw (_, _) (ca_fill (nI_clamp (by omega)) hs)))⟩⟩))
theorem ca_init {post : St2 → Prop} (H : ∀ (b1 b2 b3 b4 b5 b6 b7 b8 b9 b10 b11 b12 b13 b14 b15 b16 b17 : Nat → Int32) (b18 : Nat → Int64) (b19 : Nat → Int32), (∀ j, j < 8 → b1 j = -1) → post (t, h, p, d, g, b1, b2, b3, b4, b5, b6, b7, b8, b9, b10, b11, b12, b13, b14, b15, b16, b17, b18, b19)) : wpX_init post 19 881 (t, h, p, d, g) := by
  unfold wpX_init
  refine ⟨by omega, by omega, by omega, by omega, by omega, by omega, by omega, by omega, by omega, by omega, by omega, by omega, by omega, by omega, by omega, by omega, by omega, by omega, by omega, by omega, by omega, by omega, by omega, by omega, by omega, by omega, by omega, by omega, by omega, by omega, by omega, by omega, by omega, by omega, by omega, by omega, by omega, by omega, ?_⟩
  exact ca_i158 (fun b1 b2 hb => H b1 b2 _ _ _ _ _ _ _ _ _ _ _ _ _ _ _ _ _ hb)
theorem ca_d49 {post : Int32 → St2 → Prop} {x3 : Int32} (hk : ca_K a1) (H : ∀ b2 : Nat → Int32, post x3 (t, h, p, d, g, a1, b2, a3, a4, a5, a6, a7, a8, a9, a10, a11, a12, a13, a14, a15, a16, a17, a18, a19)) : ∃ n, wX_derive_49 post x3 t h p d g n 0 a1 a2 a3 a4 a5 a6 a7 a8 a9 a10 a11 a12 a13 a14 a15 a16 a17 a18 a19 :=
  pk_loop (fun n i (s : Nat → Int32) => wX_derive_49 post x3 t h p d g n (nI i) a1 s a3 a4 a5 a6 a7 a8 a9 a10 a11 a12 a13 a14 a15 a16 a17 a18 a19) (fun _ _ => True) 8 0 a2 (by omega) trivial
    (fun n s _ => pk_le 8 8 (fun _ => H s) (fun z => absurd z (by omega)))
    (fun n i s hi _ hw => pk_le 8 i (fun z => absurd z (by omega)) (fun _ => ⟨pk_in i 8 hi, br_c
      (fun h0 => ⟨pk_in i 8 hi, hk _ (by rw [nI_clamp (by omega)]; exact hi) h0, pk_in i 8 hi, nm_e (nm_r (nI_1 i) (hw _ trivial))⟩)
      (fun _ => ⟨pk_in i 8 hi, nm_e (nm_r (nI_1 i) (hw _ trivial))⟩)⟩))
theorem ca_der {post : Int32 → St2 → Prop} {p0 p1 : Int32} (hk : ca_K a1) (hb : ¬ ca_G p0 p1 → post (-1) (t, h, p, 0, g, a1, a2, a3, a4, a5, a6, a7, a8, a9, a10, a11, a12, a13, a14, a15, a16, a17, a18, a19))
    (hg : ca_G p0 p1 → ∀ b2 : Nat → Int32, post (a1 p0.toNatClampNeg) (t, h, p, 0, g, (upd a1 p0.toNatClampNeg p1), b2, a3, a4, a5, a6, a7, a8, a9, a10, a11, a12, a13, a14, a15, a16, a17, a18, a19)) : wpX_derive post (t, h, p, 0, g, a1, a2, a3, a4, a5, a6, a7, a8, a9, a10, a11, a12, a13, a14, a15, a16, a17, a18, a19) p0 p1 := by
  unfold wpX_derive
  exact br_c (fun z => hb (fun m => m.1 z)) (fun z0 => br_c (fun z => hb (fun m => m.2.1 z)) (fun z1 => br_c (fun z => hb (fun m => m.2.2.1 z)) (fun z2 => br_c
    (fun z3 => br_t (by decide) ⟨ca_in8 z0 z1, nm_e ⟨ca_in8 z0 z1, nm_e (ca_d49 (ca_KU hk z1 z3) (hg ⟨z0, z1, z2, z3⟩))⟩⟩)
    (fun z => hb (fun m => z m.2.2.2)))))
theorem ca_isM {post : Int32 → Prop} {u : St0} {p0 : Int32} (h0 : ¬ ca_M p0 → post 0) (h1 : ca_M p0 → post 1) : wpX_isMethod post u p0 :=
  br_c (fun z => h0 (fun m => m.1 z)) (fun z => br_c (fun y => h0 (fun m => m.2 y)) (fun y => h1 ⟨z, y⟩))
theorem ca_def {post : Int32 → St2 → Prop} {p0 p1 p2 p3 : Int32} (h1 : ¬ ca_M p0 → post (-1) (t, h, p, d, g, a1, a2, a3, a4, a5, a6, a7, a8, a9, a10, a11, a12, a13, a14, a15, a16, a17, a18, a19)) (h3 : ca_M p0 → ¬ ca_F p1 p2 p3 → post (-3) (t, h, p, d, g, a1, a2, a3, a4, a5, a6, a7, a8, a9, a10, a11, a12, a13, a14, a15, a16, a17, a18, a19))
    (h2 : ca_M p0 → ca_F p1 p2 p3 → ¬ d ≤ 0 → post (-2) (t, h, p, d, g, a1, a2, a3, a4, a5, a6, a7, a8, a9, a10, a11, a12, a13, a14, a15, a16, a17, a18, a19)) (hy : ca_M p0 → ca_F p1 p2 p3 → d ≤ 0 → ∀ b3 b4 b5 : Nat → Int32, post 1 (t, h, p, d, g, a1, a2, b3, b4, b5, a6, a7, a8, a9, a10, a11, a12, a13, a14, a15, a16, a17, a18, a19)) : wpX_define post (t, h, p, d, g, a1, a2, a3, a4, a5, a6, a7, a8, a9, a10, a11, a12, a13, a14, a15, a16, a17, a18, a19) p0 p1 p2 p3 := by
  unfold wpX_define
  exact ca_isM (fun m => br_t rfl (h1 m)) (fun m => br_f (by decide) (br_c (fun z => h3 m (fun f => f.1 z)) (fun z1 => br_c (fun z => h3 m (fun f => f.2.1 z)) (fun z2 =>
    br_c (fun z => h3 m (fun f => f.2.2.1 z)) (fun z3 => br_c (fun z => h3 m (fun f => f.2.2.2.1 z)) (fun z4 => br_c (fun z => h3 m (fun f => f.2.2.2.2.1 z)) (fun z5 =>
    br_c (fun z6 => br_c (fun d0 => ⟨ca_in16 m.1 m.2, nm_e ⟨ca_in16 m.1 m.2, nm_e ⟨ca_in16 m.1 m.2, nm_e (hy m ⟨z1, z2, z3, z4, z5, z6⟩ d0 _ _ _)⟩⟩⟩) (fun d0 => h2 m ⟨z1, z2, z3, z4, z5, z6⟩ d0))
      (fun z => h3 m (fun f => z f.2.2.2.2.2)))))))))
theorem ca_call {post : Int32 → St2 → Prop} {p0 : Int32} (h1 : ¬ ca_M p0 → post (-1) (t, h, 0, 0, g, a1, a2, a3, a4, a5, a6, a7, a8, a9, a10, a11, a12, a13, a14, a15, a16, a17, a18, a19)) (hy : ca_M p0 → post 0 (t, h, 0, 1, g, a1, a2, a3, a4, a5, a6, a7, a8, a9, a10, a11, a12, a13, a14, (upd a15 (0 : Int32).toNatClampNeg p0), a16, a17, a18, a19)) : wpX_call post (t, h, 0, 0, g, a1, a2, a3, a4, a5, a6, a7, a8, a9, a10, a11, a12, a13, a14, a15, a16, a17, a18, a19) p0 := by
  unfold wpX_call
  exact ca_isM (fun m => br_t rfl (h1 m)) (fun m => br_f (by decide) (br_t (by decide) ⟨pk_in 0 21 (by omega), nm_e ⟨0 + 1, br_t (by decide) (nm_r (by decide) (hy m))⟩⟩))
end
end
section
section
variable {t h p d g : Int32} {a1 a2 a3 a4 a5 a6 a7 a8 a9 a10 a11 a12 a13 a14 a15 a16 a17 a19 : Nat → Int32} {a18 : Nat → Int64}
variable {post : Int32 → St0 → Prop} {mc ms kc ks : Nat} {x0 x1 x2 x3 x4 x5 x8 x9 z0 z1 : Int32}
theorem ca_231 (e : z1 = z0) (H : post 1 ()) : wL_lawOf_231 post mc ms z0 z1 kc ks := br_t e H
theorem ca_194 (m0 : ¬ ca_M x2 → x8 = 0) (m1 : ca_M x2 → ¬ x8 = 0) (f0 : ¬ ca_F x3 x4 x5 → x9 = 0) (f1 : ca_F x3 x4 x5 → ¬ x9 = 0) (H : post 1 ()) (e : z1 = z0) (hd : ca_M x2 → ¬ d ≤ 0) :
    wL_lawOf_194 post mc ms x2 x3 x4 x5 x8 x9 z0 z1 kc ks t h p d g a1 a2 a3 a4 a5 a6 a7 a8 a9 a10 a11 a12 a13 a14 a15 a16 a17 a18 a19 := by
  unfold wL_lawOf_194
  exact br_t e (ca_def (fun m => br_t (m0 m) (ca_231 rfl H)) (fun m f => br_f (m1 m) (br_t (f0 f) (ca_231 rfl H))) (fun m f _ => br_f (m1 m) (br_f (f1 f) (ca_231 rfl H))) (fun m _ z => absurd z (hd m)))
theorem ca_175 (m0 : ¬ ca_M x2 → x8 = 0) (m1 : ca_M x2 → ¬ x8 = 0) (f0 : ¬ ca_F x3 x4 x5 → x9 = 0) (f1 : ca_F x3 x4 x5 → ¬ x9 = 0) (H : post 1 ()) (e : z1 = z0) (hd : ca_M x2 → d = 1 ∧ a15 0 = x2) (hn : ¬ ca_M x2 → d = 0) :
    wL_lawOf_175 post mc ms x2 x3 x4 x5 x8 x9 z0 z1 kc ks t h p d g a1 a2 a3 a4 a5 a6 a7 a8 a9 a10 a11 a12 a13 a14 a15 a16 a17 a18 a19 := by
  unfold wL_lawOf_175
  refine br_t e ?_
  unfold wpX_methodAt
  by_cases m : ca_M x2
  · obtain ⟨rfl, e15⟩ := hd m
    exact br_f (by decide) (br_f (by decide) ⟨pk_in 0 21 (by omega), br_f (m1 m) (ca_194 m0 m1 f0 f1 H e15 (fun _ => by decide))⟩)
  · have e0 := hn m
    subst e0
    exact br_f (by decide) (br_t (by decide) (br_t (m0 m) (ca_194 m0 m1 f0 f1 H rfl (fun z => absurd z m))))
theorem ca_154 (m0 : ¬ ca_M x2 → x8 = 0) (m1 : ca_M x2 → ¬ x8 = 0) (f0 : ¬ ca_F x3 x4 x5 → x9 = 0) (f1 : ca_F x3 x4 x5 → ¬ x9 = 0) (H : post 1 ()) (e : z1 = z0) :
    wL_lawOf_154 post mc ms x2 x3 x4 x5 x8 x9 z0 z1 kc ks t h 0 0 g a1 a2 a3 a4 a5 a6 a7 a8 a9 a10 a11 a12 a13 a14 a15 a16 a17 a18 a19 := by
  unfold wL_lawOf_154
  exact br_t e (ca_call (fun m => br_t (m0 m) (ca_175 m0 m1 f0 f1 H rfl (fun z => absurd z m) (fun _ => rfl)))
    (fun m => br_f (m1 m) (ca_175 m0 m1 f0 f1 H rfl (fun _ => ⟨rfl, pk_us⟩) (fun z => absurd m z))))
theorem ca_121 (m0 : ¬ ca_M x2 → x8 = 0) (m1 : ca_M x2 → ¬ x8 = 0) (f0 : ¬ ca_F x3 x4 x5 → z0 = 0) (f1 : ca_F x3 x4 x5 → ¬ z0 = 0) (H : post 1 ()) :
    wL_lawOf_121 post mc ms x2 x3 x4 x5 x8 z0 kc ks t h 0 0 g a1 a2 a3 a4 a5 a6 a7 a8 a9 a10 a11 a12 a13 a14 a15 a16 a17 a18 a19 := by
  unfold wL_lawOf_121
  exact ca_def (fun m => br_t (m0 m) (ca_154 m0 m1 f0 f1 H rfl)) (fun m f => br_f (m1 m) (br_t (f0 f) (ca_154 m0 m1 f0 f1 H rfl))) (fun _ _ z => absurd (by decide) z)
    (fun m f _ b3 b4 b5 => br_f (m1 m) (br_f (f1 f) (ca_154 m0 m1 f0 f1 H rfl)))
theorem ca_80 (m0 : ¬ ca_M x2 → z0 = 0) (m1 : ca_M x2 → ¬ z0 = 0) (H : post 1 ()) : wL_lawOf_80 post mc ms x2 x3 x4 x5 z0 kc ks t h 0 0 g a1 a2 a3 a4 a5 a6 a7 a8 a9 a10 a11 a12 a13 a14 a15 a16 a17 a18 a19 := by
  have B : ¬ ca_F x3 x4 x5 → wL_lawOf_120 post mc ms x2 x3 x4 x5 z0 kc ks t h 0 0 g a1 a2 a3 a4 a5 a6 a7 a8 a9 a10 a11 a12 a13 a14 a15 a16 a17 a18 a19 := fun nf => ca_121 m0 m1 (fun _ => rfl) (fun f => absurd f nf) H
  unfold wL_lawOf_80
  exact br_c (fun z => B (fun f => f.1 z)) (fun z1 => br_c (fun z => B (fun f => f.2.1 (ca_78.mp z))) (fun z2 => br_c (fun z => B (fun f => f.2.2.1 z)) (fun z3 => br_c (fun z => B (fun f => f.2.2.2.1 z)) (fun z4 =>
    br_c (fun z => B (fun f => f.2.2.2.2.1 z)) (fun z5 => br_c (fun z => B (fun f => ca_nlt.mpr f.2.2.2.2.2 z)) (fun z6 =>
      ca_121 m0 m1 (fun nf => absurd ⟨z1, fun w => z2 (ca_78.mpr w), z3, z4, z5, ca_nlt.mp z6⟩ nf) (fun _ => by decide) H))))))
theorem ca_65 (H : post 1 ()) : wL_lawOf_65 post mc ms x2 x3 x4 x5 kc ks t h 0 0 g a1 a2 a3 a4 a5 a6 a7 a8 a9 a10 a11 a12 a13 a14 a15 a16 a17 a18 a19 := by
  have B : ¬ ca_M x2 → wL_lawOf_79 post mc ms x2 x3 x4 x5 kc ks t h 0 0 g a1 a2 a3 a4 a5 a6 a7 a8 a9 a10 a11 a12 a13 a14 a15 a16 a17 a18 a19 := fun nm => ca_80 (fun _ => rfl) (fun m => absurd m nm) H
  unfold wL_lawOf_65
  exact br_c (fun z => B (fun m => m.1 z)) (fun z1 => br_c (fun z => B (fun m => m.2 (ca_1516.mp z))) (fun z2 => ca_80 (fun nm => absurd ⟨z1, fun w => z2 (ca_1516.mpr w)⟩ nm) (fun _ => by decide) H))
theorem ca_34 (g0 : ¬ ca_G x0 x1 → z0 = 0) (g1 : ca_G x0 x1 → ¬ z0 = 0) (hm : ∀ j, j < 8 → a1 j = -1) (H : post 1 ()) : wL_lawOf_34 post mc ms x0 x1 x2 x3 x4 x5 z0 kc ks t h 0 0 g a1 a2 a3 a4 a5 a6 a7 a8 a9 a10 a11 a12 a13 a14 a15 a16 a17 a18 a19 := by
  unfold wL_lawOf_34
  refine ca_der (ca_K0 hm) (fun n => br_t rfl (br_t (g0 n) (ca_65 H))) (fun y b2 => br_t (hm _ (ca_cl8 y.1 y.2.1)) (br_f (g1 y) ?_))
  refine ca_der (ca_KU (ca_K0 hm) y.2.1 y.2.2.2) (fun n => absurd ⟨y.1, y.2.1, (by decide), ca_m1 y.1⟩ n) (fun _ b2' => br_t pk_us (ca_65 H))
theorem ca_lawOf (H : post 1 ()) : wpL_lawOf post 20 905 () x0 x1 x2 x3 x4 x5 := by
  unfold wpL_lawOf
  refine ⟨by omega, by omega, 19, 881, by omega, by omega, ?_⟩
  refine ca_init (fun b1 b2 b3 b4 b5 b6 b7 b8 b9 b10 b11 b12 b13 b14 b15 b16 b17 b18 b19 hm => ?_)
  have B : ¬ ca_G x0 x1 → wL_lawOf_33 post 20 905 x0 x1 x2 x3 x4 x5 (1 + 19) (24 + 881) 0 0 0 0 0 b1 b2 b3 b4 b5 b6 b7 b8 b9 b10 b11 b12 b13 b14 b15 b16 b17 b18 b19 := fun n => ca_34 (fun _ => rfl) (fun y => absurd y n) hm H
  exact br_c (fun z => B (fun y => y.1 z)) (fun z1 => br_c (fun z => B (fun y => y.2.1 (ca_78.mp z))) (fun z2 => br_c (fun z => B (fun y => y.2.2.1 z)) (fun z3 => br_c (fun z => B (fun y => ca_nle.mpr y.2.2.2 z))
    (fun z4 => ca_34 (fun n => absurd ⟨z1, fun w => z2 (ca_78.mpr w), z3, ca_nle.mp z4⟩ n) (fun _ => by decide) hm H))))
end
end
section
theorem i_vc (xs : Nat → Int32) (L : Nat) (hL : L ≤ 6) : wpL_law (fun r => r = 1) L xs := by
  unfold wpL_law
  exact ca_cell 0 (by omega) hL (fun _ => ca_cell 1 (by omega) hL (fun _ => ca_cell 2 (by omega) hL (fun _ => ca_cell 3 (by omega) hL (fun _ => ca_cell 4 (by omega) hL (fun _ => ca_cell 5 (by omega) hL (fun _ =>
    ⟨20, 905, by omega, by omega, ca_lawOf rfl⟩))))))
end

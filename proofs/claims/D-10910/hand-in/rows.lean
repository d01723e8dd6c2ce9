section
section
variable {st w c fi : Int32} {a1 a2 a3 a4 a5 a6 a7 a8 a9 a10 : Nat → Int32}

theorem sq_meets {post : Int32 → Prop} {p1 p2 : Int32} (h1 : a1 0 = 4) (h3 : a3 0 = 0) (H : post 1) : wpX_meets post (st, w, c, fi, a1, a2, a3, a4, a5, a6, a7, a8, a9, a10) 0 p1 p2 := by
  have n1 : ¬ a3 0 = 1 := by rw [h3]; decide
  have n2 : ¬ a3 0 = 2 := by rw [h3]; decide
  have n3 : ¬ a3 0 = 3 := by rw [h3]; decide
  have n4 : ¬ a3 0 = 4 := by rw [h3]; decide
  have i4 : vp_in 0 4 := pk_in 0 4 (by omega)
  exact ⟨i4, br_t h1 ⟨i4, br_f n1 ⟨i4, br_f n2 ⟨i4, br_f n3 ⟨i4, br_f n4 H⟩⟩⟩⟩⟩
theorem sq_add {post : St2 → Prop} (h8 : a8 0 = 0) (h10 : a10 0 = 0) (H : post (st, w, c, fi, a1, a2, a3, a4, a5, a6, a7, upd a8 0 1, a9, upd a10 0 1)) : wpX_add post (st, w, c, fi, a1, a2, a3, a4, a5, a6, a7, a8, a9, a10) 0 1 1 := by
  have i4 : vp_in 0 40 := pk_in 0 40 (by omega)
  have e8 : upd a8 0 (a8 0 + 1) = upd a8 0 1 := by rw [h8]; rfl
  have n1 : ¬ 1 ≤ a10 0 := by rw [h10]; decide
  exact ⟨i4, i4, nm_r e8 ⟨i4, br_f n1 ⟨i4, nm_e H⟩⟩⟩
/-- runFrom(0) with one event, steps ≥ 1, the first step ANY of kind 0: runs[0] = 1, runs[10] = 0 -/
theorem sq_runFrom {post : St2 → Prop} (hst : ¬ st ≤ 0) (h1 : a1 0 = 4) (h3 : a3 0 = 0)
    (H : ∀ b8 b10 : Nat → Int32, b8 0 = 1 → b8 10 = 0 → post (st, w, 1, 0, a1, a2, a3, a4, a5, a6, a7, b8, a9, b10)) : wpX_runFrom post (st, w, 1, fi, a1, a2, a3, a4, a5, a6, a7, a8, a9, a10) 0 :=
  pk_loop (σ := (Nat → Int32) × (Nat → Int32)) (fun n i s => wX_runFrom_7 post 0 st w 1 0 n (nI i) a1 a2 a3 a4 a5 a6 a7 s.1 a9 s.2) (fun i s => ∀ j, j < i → s.1 j = 0 ∧ s.2 j = 0) 40 0 (a8, a10) (by omega) (fun j hj => absurd hj (by omega))
    (fun n s h => pk_le 40 40 (fun _ => br_f hst (sq_meets h1 h3 (br_f (by decide) (sq_add (h 0 (by omega)).1 (h 0 (by omega)).2 (nm_r (e' := 1) (by decide) ⟨1, br_t (by decide) (H _ _ pk_us ((pk_un (by decide)).trans (h 10 (by omega)).1))⟩))))) (fun z => absurd z (by omega)))
    (fun n i s hi h hw => pk_le 40 i (fun z => absurd z (by omega)) (fun _ => ⟨pk_in i 40 hi, nm_e ⟨pk_in i 40 hi, nm_e (nm_r (nI_1 i) (hw (upd s.1 (nI i).toNatClampNeg 0, upd s.2 (nI i).toNatClampNeg 0) (by
      intro j hj
      rw [nI_clamp (show i < 2 ^ 31 by omega)]
      by_cases e : j = i
      · rw [e]; exact ⟨pk_us, pk_us⟩
      · exact ⟨(pk_un e).trans (h j (by omega)).1, (pk_un e).trans (h j (by omega)).2⟩)))⟩⟩))
/-- steps and the whole finds of the one event -/
def sq_SV (st v : Int32) : Prop := (st = 1 ∧ v = 1) ∨ (st = 2 ∧ v = 0)
theorem sq_SV_pos {v : Int32} (h : sq_SV st v) : ¬ st ≤ 0 := by
  rcases h with ⟨rfl, _⟩ | ⟨rfl, _⟩ <;> decide
theorem sq_whole {post : Int32 → Prop} {v : Int32} (h : sq_SV st v) (e0 : a8 0 = 1) (e10 : a8 10 = 0) (H : post v) : wpX_whole post (st, w, c, fi, a1, a2, a3, a4, a5, a6, a7, a8, a9, a10) 0 := by
  rcases h with ⟨rfl, rfl⟩ | ⟨rfl, rfl⟩
  · exact br_f (by decide) ⟨pk_in 0 40 (by omega), ek_v (P := post) e0 H⟩
  · exact br_f (by decide) ⟨pk_in 10 40 (by omega), ek_v (P := post) e10 H⟩
theorem sq_ending {post : Int32 → St2 → Prop} (h1 : a1 0 = 4) (h3 : a3 0 = 0)
    (H : ∀ b8 b10 : Nat → Int32, post 1 (1, w, 1, 0, a1, a2, a3, a4, a5, a6, a7, b8, a9, b10)) : wpX_endingAt post (1, w, 1, fi, a1, a2, a3, a4, a5, a6, a7, a8, a9, a10) 0 := by
  unfold wpX_endingAt
  refine br_f (by decide) (br_t (by decide) (br_t rfl ⟨2, br_f (by decide) ?_⟩))
  refine sq_runFrom (by decide) h1 h3 (fun b8 b10 e0 e10 => ?_)
  exact sq_whole (v := 1) (Or.inl ⟨rfl, rfl⟩) e0 e10 (nm_r (e' := 1) (by decide) (nm_r (e' := 1) (by decide) (br_t (by decide) (H b8 b10))))
theorem sq_beginning {post : Int32 → St2 → Prop} {v : Int32} (hv : sq_SV st v) (h1 : a1 0 = 4) (h3 : a3 0 = 0)
    (H : ∀ b8 b10 : Nat → Int32, post v (st, w, 1, 0, a1, a2, a3, a4, a5, a6, a7, b8, a9, b10)) : wpX_beginningAt post (st, w, 1, fi, a1, a2, a3, a4, a5, a6, a7, a8, a9, a10) 0 := by
  unfold wpX_beginningAt
  refine br_f (by decide) (br_t (by decide) (br_t rfl ?_))
  refine sq_runFrom (sq_SV_pos hv) h1 h3 (fun b8 b10 e0 e10 => ?_)
  exact ⟨2, br_f (by decide) (sq_whole hv e0 e10 (nm_r (e' := v) (Int32.zero_add v) (nm_r (e' := 1) (by decide) (br_t (by decide) (H b8 b10)))))⟩
theorem sq_finds0 {post : Int32 → St2 → Prop} (H : post 0 (st, w, 0, fi, a1, a2, a3, a4, a5, a6, a7, a8, a9, a10)) : wpX_finds post (st, w, 0, fi, a1, a2, a3, a4, a5, a6, a7, a8, a9, a10) :=
  ⟨1, br_t (by decide) H⟩
theorem sq_finds1 {post : Int32 → St2 → Prop} {v : Int32} (hv : sq_SV st v) (h1 : a1 0 = 4) (h3 : a3 0 = 0)
    (H : ∀ b8 b10 : Nat → Int32, post v (st, w, 1, 0, a1, a2, a3, a4, a5, a6, a7, b8, a9, b10)) : wpX_finds post (st, w, 1, fi, a1, a2, a3, a4, a5, a6, a7, a8, a9, a10) :=
  ⟨2, br_f (by decide) (sq_beginning hv h1 h3 (fun b8 b10 => nm_r (e' := v) (Int32.zero_add v) (nm_r (e' := 1) (by decide) (br_t (by decide) (H b8 b10)))))⟩
theorem sq_waysOn {post : Int32 → Prop} (H : post 1) : wpX_waysOn post (1, w, 1, fi, a1, a2, a3, a4, a5, a6, a7, a8, a9, a10) 0 0 :=
  br_t (by decide) (nm_r (e' := 1) (by decide) ⟨1, br_t (by decide) H⟩)
theorem sq_waysFrom {post : St2 → Prop} (H : post (1, w, 1, 0, a1, a2, a3, a4, a5, a6, a7, a8, upd a9 0 1, a10)) : wpX_waysFrom post (1, w, 1, fi, a1, a2, a3, a4, a5, a6, a7, a8, a9, a10) 0 :=
  nm_r (e' := 0) (by decide) ⟨2, br_f (by decide) (nm_r (e' := 0) (by decide) ⟨2, br_f (by decide) (sq_waysOn ⟨pk_in 0 40 (by omega), nm_r (e' := upd a9 0 1) (by rfl) (nm_r (e' := -1) (by decide) (br_t (by decide) (nm_r (e' := -1) (by decide) (br_t (by decide) H))))⟩)⟩)⟩
theorem sq_using0 {post : Int32 → St2 → Prop} {k : Int32} (H : post (-4) (st, w, 0, fi, a1, a2, a3, a4, a5, a6, a7, a8, a9, a10)) : wpX_using post (st, w, 0, fi, a1, a2, a3, a4, a5, a6, a7, a8, a9, a10) k := by
  unfold wpX_using
  exact br_c (fun _ => br_f (by decide) H) (fun h => br_f h (br_f (by decide) H))
theorem sq_k0 {k : Int32} (h : ¬ k < 0) (h1 : k < 1) : k = 0 := by
  rcases pk_ix k (n := 1) (by omega) with z | z | ⟨j, hj, z⟩
  · exact absurd z h
  · exact absurd (Int32.lt_of_le_of_lt z h1) (by decide)
  · rw [z, show j = 0 by omega]; rfl
theorem sq_using1 {post : Int32 → St2 → Prop} {k : Int32} (h1 : a1 0 = 4) (h3 : a3 0 = 0)
    (H0 : k = 0 → ∀ b8 b9 b10 : Nat → Int32, post 1 (1, w, 1, 0, a1, a2, a3, a4, a5, a6, a7, b8, b9, b10))
    (H1 : k ≠ 0 → post (-4) (1, w, 1, fi, a1, a2, a3, a4, a5, a6, a7, a8, a9, a10)) : wpX_using post (1, w, 1, fi, a1, a2, a3, a4, a5, a6, a7, a8, a9, a10) k := by
  unfold wpX_using
  refine br_c (fun h => br_f (by decide) (H1 (fun z => absurd (z ▸ h : (0 : Int32) < 0) (by decide)))) (fun h => br_c (fun h' => br_t rfl ?_) (fun h' => br_f (by decide) (H1 (fun z => h' (by rw [z]; decide)))))
  have hk := sq_k0 h h'
  subst hk
  refine ⟨2, br_f (by decide) (sq_runFrom (by decide) h1 h3 (fun b8 b10 e0 e10 => sq_waysFrom ⟨2, br_f (by decide) ⟨pk_in 0 40 (by omega), pk_in 0 40 (by omega), nm_r (e' := 1) ?_ (nm_r (e' := 1) (by decide) (br_t (by decide) (nm_r (e' := 1) (by decide) (br_t (by decide) (H0 rfl b8 _ b10)))))⟩⟩))⟩
  show (0 : Int32) + b8 0 * 1 = 1
  rw [e0]
  decide
end
end
section
section
variable {st w c fi : Int32} {a1 a2 a3 a4 a5 a6 a7 a8 a9 a10 : Nat → Int32}

def sq_I (t v g : Int32) : Prop := ¬ t < 0 ∧ ¬ 3 < t ∧ ¬ v < 0 ∧ ¬ 9 < v ∧ ¬ g < 0 ∧ ¬ 5 < g
theorem sq_six {t v g : Int32} {A B : Prop} (a : ¬ sq_I t v g → A) (b : sq_I t v g → B) :
    (t < 0 → A) ∧ (¬ t < 0 → ((3 < t → A) ∧ (¬ 3 < t → ((v < 0 → A) ∧ (¬ v < 0 → ((9 < v → A) ∧ (¬ 9 < v → ((g < 0 → A) ∧ (¬ g < 0 → ((5 < g → A) ∧ (¬ 5 < g → B))))))))))) :=
  ⟨fun h => a (fun z => z.1 h), fun h1 => ⟨fun h => a (fun z => z.2.1 h), fun h2 => ⟨fun h => a (fun z => z.2.2.1 h), fun h3 => ⟨fun h => a (fun z => z.2.2.2.1 h), fun h4 => ⟨fun h => a (fun z => z.2.2.2.2.1 h), fun h5 => ⟨fun h => a (fun z => z.2.2.2.2.2 h), fun h6 => b ⟨h1, h2, h3, h4, h5, h6⟩⟩⟩⟩⟩⟩⟩
def sq_W (w : Int32) : Int32 := if w < 0 then -1 else if 40 < w then -1 else 10
theorem sq_window {post : Int32 → St2 → Prop} {p : Int32} (H : ∀ w' : Int32, post (sq_W p) (st, w', c, fi, a1, a2, a3, a4, a5, a6, a7, a8, a9, a10)) : wpX_window post (st, 10, c, fi, a1, a2, a3, a4, a5, a6, a7, a8, a9, a10) p := by
  refine br_c (fun h => ?_) (fun h => br_c (fun h' => ?_) (fun h' => ?_))
  · have e : sq_W p = -1 := if_pos h
    exact e ▸ H 10
  · have e : sq_W p = 10 := (if_neg h).trans (if_neg (Int32.not_lt.mpr h'))
    exact e ▸ H p
  · have e : sq_W p = -1 := (if_neg h).trans (if_pos (Int32.not_le.mp h'))
    exact e ▸ H 10
theorem sq_event {post : Int32 → St2 → Prop} {t v g : Int32} (h1 : a1 0 = 4) (h3 : a3 0 = 0)
    (Hi : sq_I t v g → ∀ b5 b6 b7 b8 b10 : Nat → Int32, post 1 (1, w, 1, 0, a1, a2, a3, a4, b5, b6, b7, b8, a9, b10))
    (Ho : ¬ sq_I t v g → post (-1) (1, w, 0, fi, a1, a2, a3, a4, a5, a6, a7, a8, a9, a10)) : wpX_event post (1, w, 0, fi, a1, a2, a3, a4, a5, a6, a7, a8, a9, a10) t v g := by
  refine br_c (fun h => Ho (fun z => z.1 h)) (fun i1 => br_c (fun h => Ho (fun z => z.2.1 h)) (fun i2 => br_c (fun h => Ho (fun z => z.2.2.1 h)) (fun i3 => br_c (fun h => Ho (fun z => z.2.2.2.1 h)) (fun i4 => br_c (fun h => Ho (fun z => z.2.2.2.2.1 h)) (fun i5 => br_c (fun i6 => ?_) (fun h => Ho (fun z => h (Int32.not_lt.mp z.2.2.2.2.2))))))))
  have hi : sq_I t v g := ⟨i1, i2, i3, i4, i5, Int32.not_lt.mpr i6⟩
  refine br_f (by decide) ⟨pk_in 0 10 (by omega), nm_e ⟨pk_in 0 10 (by omega), nm_e (br_t rfl ⟨pk_in 0 10 (by omega), nm_e (nm_r (e' := 1) (by decide) ?_)⟩)⟩⟩
  exact sq_ending h1 h3 (fun b8 b10 => Hi hi _ _ _ b8 b10)
def sq_K (k : Int32) : Prop := (¬ k < 0 ∧ k ≤ 4) ∨ (¬ k < 8 ∧ ¬ 12 < k)
def sq_S (t v k : Int32) : Prop := ¬ t < 0 ∧ ¬ 4 < t ∧ ¬ v < 0 ∧ ¬ 9 < v ∧ sq_K k
theorem sq_kneg {k : Int32} (h : k < 0) : ¬ sq_K k := by
  rintro (z | z)
  · exact z.1 h
  · exact z.1 (Int32.lt_trans h (by decide))
theorem sq_kbig {k : Int32} (h : 15 < k) : ¬ sq_K k := by
  rintro (z | z)
  · exact absurd (Int32.lt_of_lt_of_le h z.2) (by decide)
  · exact z.2 (Int32.lt_trans (by decide) h)
theorem sq_ktab : ∀ j, j < 16 → (nI j &&& 7 ≤ 4 ↔ ((¬ nI j < 0 ∧ nI j ≤ 4) ∨ (¬ nI j < 8 ∧ ¬ 12 < nI j))) := by decide +kernel
theorem sq_kmid {k : Int32} (h : ¬ k < 0) (h2 : ¬ 15 < k) : k &&& 7 ≤ 4 ↔ sq_K k := by
  rcases pk_ix k (n := 16) (by omega) with z | z | ⟨j, hj, z⟩
  · exact absurd z h
  · exact absurd (Int32.le_trans z (Int32.not_lt.mp h2)) (by decide)
  · rw [z]; exact sq_ktab j hj
theorem sq_step {post : Int32 → St2 → Prop} {t v k : Int32} (h1 : a1 0 = 4) (h3 : a3 0 = 0)
    (Hi : sq_S t v k → ∀ b1 b2 b3 b4 : Nat → Int32, b1 0 = 4 → b3 0 = 0 → post 2 (2, w, c, fi, b1, b2, b3, b4, a5, a6, a7, a8, a9, a10))
    (Ho : ¬ sq_S t v k → post (-1) (1, w, c, fi, a1, a2, a3, a4, a5, a6, a7, a8, a9, a10)) : wpX_step post (1, w, c, fi, a1, a2, a3, a4, a5, a6, a7, a8, a9, a10) t v k := by
  refine nm_e (br_c (fun h => Ho (fun z => z.1 h)) (fun i1 => br_c (fun h => Ho (fun z => z.2.1 h)) (fun i2 => br_c (fun h => Ho (fun z => z.2.2.1 h)) (fun i3 => br_c (fun i4 => ?_) (fun h => Ho (fun z => h (Int32.not_lt.mp z.2.2.2.1)))))))
  refine br_c (fun h => Ho (fun z => sq_kneg h z.2.2.2.2)) (fun i5 => br_c (fun h => Ho (fun z => sq_kbig h z.2.2.2.2)) (fun i6 => br_c (fun i7 => ?_) (fun h => Ho (fun z => h ((sq_kmid i5 i6).mpr z.2.2.2.2)))))
  have hs : sq_S t v k := ⟨i1, i2, i3, Int32.not_lt.mpr i4, (sq_kmid i5 i6).mp i7⟩
  have i4 : vp_in 1 4 := pk_in 1 4 (by omega)
  have e1 : ∀ x : Int32, upd a1 (1 : Int32).toNatClampNeg x 0 = 4 := fun x => (pk_un (by decide)).trans h1
  have e3 : ∀ x : Int32, upd a3 (1 : Int32).toNatClampNeg x 0 = 0 := fun x => (pk_un (by decide)).trans h3
  refine br_f (by decide) ⟨i4, nm_e ⟨i4, nm_e ⟨i4, nm_e (br_c (fun _ => ?_) (fun _ => ?_))⟩⟩⟩
  · exact ⟨i4, nm_e (nm_r (e' := 2) (by decide) (Hi hs _ _ _ _ (e1 _) (e3 _)))⟩
  · exact ⟨i4, nm_e (nm_r (e' := 2) (by decide) (Hi hs _ _ _ _ (e1 _) (e3 _)))⟩
end
end
section
section
variable {post : Int32 → St0 → Prop} {mc ms kc ks : Nat} {x0 x1 x3 x4 x6 x7 x8 x9 x10 x11 x12 x13 z0 z1 d : Int32}
theorem sq_165 (P : post 1 ()) (h6 : z1 = z0)
    (h7 : (x12 = 0 ∧ x7 = -1 ∧ x8 = 0 ∧ x9 = -4) ∨ (x12 = 1 ∧ x7 = 1 ∧ x8 = 1 ∧ ((x4 = 0 ∧ x9 = 1) ∨ (x4 ≠ 0 ∧ x9 = -4))))
    (h10 : (x13 = 0 ∧ x10 = -1 ∧ x11 = x12) ∨ (x13 = 1 ∧ x10 = 2 ∧ x11 = 0)) :
    wL_lawOf_165 post mc ms x4 x7 x8 x9 x10 x11 x12 x13 z0 z1 kc ks := by
  have E231 : wL_lawOf_231 post mc ms x11 x12 x13 x10 x10 kc ks := by
    refine br_t rfl ?_
    rcases h10 with ⟨e13, _, e11⟩ | ⟨e13, _, e11⟩
    · rcases h7 with ⟨e12, _⟩ | ⟨e12, _⟩
      · exact br_t e12 (br_t (e11.trans e12) P)
      · exact br_f (by rw [e12]; decide) (br_t e13 (br_t (e11.trans e12) P))
    · have n13 : ¬ x13 = 0 := by rw [e13]; decide
      exact br_c (fun _ => br_t e11 P) (fun _ => br_f n13 (br_t e11 P))
  have E216 : wL_lawOf_216 post mc ms x10 x11 x12 x13 x9 x9 kc ks := by
    refine br_t rfl ?_
    rcases h10 with ⟨e13, e10, _⟩ | ⟨e13, e10, _⟩
    · refine br_t e13 ?_
      rw [e10] at E231 ⊢
      exact E231
    · refine br_f (by rw [e13]; decide) ?_
      rw [e10] at E231 ⊢
      exact E231
  have E195 : wL_lawOf_195 post mc ms x4 x9 x10 x11 x12 x13 x8 x8 kc ks := by
    refine br_t rfl ?_
    rcases h7 with ⟨e12, _, _, e9⟩ | ⟨e12, _, _, ⟨e4, e9⟩ | ⟨e4, e9⟩⟩
    · refine br_t e12 ?_
      rw [e9] at E216 ⊢
      exact E216
    · refine br_f (by rw [e12]; decide) (br_t e4 ?_)
      rw [e9] at E216 ⊢
      exact E216
    · refine br_f (by rw [e12]; decide) (br_f e4 ?_)
      rw [e9] at E216 ⊢
      exact E216
  have E180 : wL_lawOf_180 post mc ms x4 x8 x9 x10 x11 x12 x13 x7 x7 kc ks := by
    refine br_t rfl ?_
    rcases h7 with ⟨e12, _, e8, _⟩ | ⟨e12, _, e8, _⟩
    · refine br_t e12 ?_
      rw [e8] at E195 ⊢
      exact E195
    · refine br_f (by rw [e12]; decide) ?_
      rw [e8] at E195 ⊢
      exact E195
  refine br_t h6 ?_
  rcases h7 with ⟨e12, e7, _⟩ | ⟨e12, e7, _⟩
  · refine br_t e12 ?_
    rw [e7] at E180 ⊢
    exact E180
  · refine br_f (by rw [e12]; decide) ?_
    rw [e7] at E180 ⊢
    exact E180
theorem sq_145 (h : ∀ z : Int32, z = sq_W x3 → wL_lawOf_165 post mc ms x4 x7 x8 x9 x10 x11 x12 d z (sq_W x3) kc ks) :
    wL_lawOf_145 post mc ms x3 x4 (sq_W x3) x7 x8 x9 x10 x11 x12 d kc ks := by
  refine br_c (fun i => ?_) (fun i => br_c (fun j => ?_) (fun j => ?_))
  · exact h (-1) (if_pos i).symm
  · exact h (-1) ((if_neg i).trans (if_pos j)).symm
  · exact h 10 ((if_neg i).trans (if_neg j)).symm
theorem sq_94 (b : sq_S x0 x1 x4 → wL_lawOf_145 post mc ms x3 x4 x6 x7 x8 x9 x10 x11 x12 1 kc ks)
    (a : ¬ sq_S x0 x1 x4 → wL_lawOf_145 post mc ms x3 x4 x6 x7 x8 x9 x10 x11 x12 0 kc ks) :
    wL_lawOf_94 post mc ms x0 x1 x3 x4 x6 x7 x8 x9 x10 x11 x12 kc ks := by
  refine br_c (fun h => a (fun z => z.1 h)) (fun i1 => br_c (fun h => a (fun z => z.2.1 h)) (fun i2 => br_c (fun h => a (fun z => z.2.2.1 h)) (fun i3 => br_c (fun h => a (fun z => z.2.2.2.1 h)) (fun i4 => ?_))))
  have k : ¬ (¬ x4 < 0 ∧ x4 ≤ 4) → wL_lawOf_126 post mc ms x3 x4 x6 x7 x8 x9 x10 x11 x12 kc ks := fun n =>
    br_c (fun h => a (fun z => z.2.2.2.2.elim n (fun y => y.1 h))) (fun j1 => br_c (fun h => a (fun z => z.2.2.2.2.elim n (fun y => y.2 h))) (fun j2 => b ⟨i1, i2, i3, i4, Or.inr ⟨j1, j2⟩⟩))
  exact br_c (fun h => k (fun z => z.1 h)) (fun j => br_c (fun h => b ⟨i1, i2, i3, i4, Or.inl ⟨j, h⟩⟩) (fun h => k (fun z => h z.2)))
/-- behind the calls: d tells whether the step was taken, x12 whether the event was -/
theorem sq_tail (P : post 1 ())
    (h7 : (x12 = 0 ∧ x7 = -1 ∧ x8 = 0 ∧ x9 = -4) ∨ (x12 = 1 ∧ x7 = 1 ∧ x8 = 1 ∧ ((x4 = 0 ∧ x9 = 1) ∨ (x4 ≠ 0 ∧ x9 = -4))))
    (hs : (¬ sq_S x0 x1 x4 ∧ x10 = -1 ∧ x11 = x12) ∨ (sq_S x0 x1 x4 ∧ x10 = 2 ∧ x11 = 0)) :
    wL_lawOf_94 post mc ms x0 x1 x3 x4 (sq_W x3) x7 x8 x9 x10 x11 x12 kc ks :=
  sq_94 (fun y => sq_145 (fun z hz => sq_165 P hz.symm h7 (hs.elim (fun n => absurd y n.1) (fun s => Or.inr ⟨rfl, s.2⟩))))
    (fun y => sq_145 (fun z hz => sq_165 P hz.symm h7 (hs.elim (fun n => Or.inl ⟨rfl, n.2⟩) (fun s => absurd s.1 y))))
end
theorem sq_cell {post : Int32 → Prop} {L : Nat} {xs : Nat → Int32} {u : St0} (hL : L ≤ 5) (i : Nat) (hi : i < 5) (H : ∀ x, post x) : wpL_cellAt post L xs u (nI i) :=
  pk_le L i (fun _ => H _) (fun z => ⟨pk_in i L z, H _⟩)
end
section
theorem sq_lawOf (post : Int32 → St0 → Prop) (P : post 1 ()) (t v g w k : Int32) : wpL_lawOf post 11 180 () t v g w k := by
  unfold wpL_lawOf
  refine ⟨by omega, by omega, 10, 166, by omega, by omega, ?_⟩
  refine ⟨by omega, by omega, by omega, by omega, by omega, by omega, by omega, by omega, by omega, by omega, by omega, by omega, by omega, by omega, by omega, by omega, by omega, by omega, by omega, by omega, nm_e ?_⟩
  refine sq_window (fun w' => ?_)
  refine sq_event pk_us rfl (fun hi b5 b6 b7 b8 b10 => ?_) (fun hn => ?_)
  · refine sq_finds1 (v := 1) (Or.inl ⟨rfl, rfl⟩) pk_us rfl (fun c8 c10 => ?_)
    refine sq_using1 pk_us rfl (fun hk d8 d9 d10 => ?_) (fun hk => ?_)
    · refine sq_step pk_us rfl (fun hs e1 e2 e3 e4 g1 g3 => ?_) (fun hs => ?_)
      · exact sq_finds1 (v := 0) (Or.inr ⟨rfl, rfl⟩) g1 g3 (fun c8 c10 => sq_six (fun z => absurd hi z) (fun _ => sq_tail P (Or.inr ⟨rfl, rfl, rfl, Or.inl ⟨hk, rfl⟩⟩) (Or.inr ⟨hs, rfl, rfl⟩)))
      · exact sq_finds1 (v := 1) (Or.inl ⟨rfl, rfl⟩) pk_us rfl (fun c8 c10 => sq_six (fun z => absurd hi z) (fun _ => sq_tail P (Or.inr ⟨rfl, rfl, rfl, Or.inl ⟨hk, rfl⟩⟩) (Or.inl ⟨hs, rfl, rfl⟩)))
    · refine sq_step pk_us rfl (fun hs e1 e2 e3 e4 g1 g3 => ?_) (fun hs => ?_)
      · exact sq_finds1 (v := 0) (Or.inr ⟨rfl, rfl⟩) g1 g3 (fun c8 c10 => sq_six (fun z => absurd hi z) (fun _ => sq_tail P (Or.inr ⟨rfl, rfl, rfl, Or.inr ⟨hk, rfl⟩⟩) (Or.inr ⟨hs, rfl, rfl⟩)))
      · exact sq_finds1 (v := 1) (Or.inl ⟨rfl, rfl⟩) pk_us rfl (fun c8 c10 => sq_six (fun z => absurd hi z) (fun _ => sq_tail P (Or.inr ⟨rfl, rfl, rfl, Or.inr ⟨hk, rfl⟩⟩) (Or.inl ⟨hs, rfl, rfl⟩)))
  · refine sq_finds0 (sq_using0 ?_)
    refine sq_step pk_us rfl (fun hs e1 e2 e3 e4 g1 g3 => ?_) (fun hs => ?_)
    · exact sq_finds0 (sq_six (fun _ => sq_tail P (Or.inl ⟨rfl, rfl, rfl, rfl⟩) (Or.inr ⟨hs, rfl, rfl⟩)) (fun z => absurd z hn))
    · exact sq_finds0 (sq_six (fun _ => sq_tail P (Or.inl ⟨rfl, rfl, rfl, rfl⟩) (Or.inl ⟨hs, rfl, rfl⟩)) (fun z => absurd z hn))
theorem i_vc (xs : Nat → Int32) (L : Nat) (hL : L ≤ 5) : wpL_law (fun r => r = 1) L xs := by
  unfold wpL_law
  exact sq_cell hL 0 (by omega) (fun t => sq_cell hL 1 (by omega) (fun v => sq_cell hL 2 (by omega) (fun g => sq_cell hL 3 (by omega) (fun w => sq_cell hL 4 (by omega) (fun k => ⟨11, 180, by omega, by omega, sq_lawOf _ rfl t v g w k⟩)))))
end

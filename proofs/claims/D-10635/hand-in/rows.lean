section
/-- a coroutine's number: 0 .. 3 -/
def cf_g (x : Int32) : Prop := ¬ x < 0 ∧ x ≤ 3
/-- a function's number: 0 .. 2 -/
def cf_f (x : Int32) : Prop := ¬ x < 0 ∧ x ≤ 2
theorem cf_gn {x : Int32} (h : cf_g x) : ∃ k : Nat, k ≤ 3 ∧ x = nI k := nI_of2 (M := 3) (n := 3) (by decide) h.1 h.2
theorem cf_fn {x : Int32} (h : cf_f x) : ∃ k : Nat, k ≤ 2 ∧ x = nI k := nI_of2 (M := 2) (n := 2) (by decide) h.1 h.2
theorem cf_lt3 {x : Int32} : x < 3 ↔ x ≤ 2 := by
  have e3 : (3 : Int32).toInt = 3 := by decide
  have e2 : (2 : Int32).toInt = 2 := by decide
  rw [Int32.lt_iff_toInt_lt, Int32.le_iff_toInt_le, e3, e2]
  omega
theorem cf_le3 {x : Int32} : 3 ≤ x ↔ ¬ x ≤ 2 := by
  have e3 : (3 : Int32).toInt = 3 := by decide
  have e2 : (2 : Int32).toInt = 2 := by decide
  rw [Int32.le_iff_toInt_le, Int32.le_iff_toInt_le, e3, e2]
  omega
theorem cf_gin {x : Int32} (h : cf_g x) : vp_in x 4 := by
  obtain ⟨k, hk, rfl⟩ := cf_gn h
  exact pk_in k 4 (by omega)
theorem cf_fin {x : Int32} (h : cf_f x) : vp_in x 3 := by
  obtain ⟨k, hk, rfl⟩ := cf_fn h
  exact pk_in k 3 (by omega)
theorem cf_mx (k c i : Nat) : nI k * nI c + nI i = nI (k * c + i) := by
  rw [pk_mul, nI_add]
/-- a place written over with what another place holds: that other place stays -/
theorem cf_uu (f : Nat → Int32) (k j : Nat) : upd f k (f j) j = f j := by
  by_cases e : j = k
  · rw [e, pk_us]
  · rw [pk_un e]
theorem cf_badG {post : Int32 → Prop} {u : St0} {x : Int32} (h : cf_g x) (hp : post 0) : wpX_bad post u x := br_f h.1 (br_t h.2 hp)
theorem cf_badB {post : Int32 → Prop} {u : St0} {x : Int32} (h : ¬ cf_g x) (hp : post 1) : wpX_bad post u x :=
  br_c (fun _ => hp) (fun a => br_f (fun b => h ⟨a, b⟩) hp)
theorem cf_10 : ¬ (1 : Int32) = 0 := by decide
/-- emit on a class in which nothing has been emitted and no coroutine been started -/
theorem cf_emit24 {post : Int32 → St2 → Prop} {fa ff fp : Int32} {a1 a2 a3 a4 a5 a6 a7 a8 a9 a10 a11 a12 a13 a14 : Nat → Int32} {p0 p1 p2 p3 : Int32} (h1 : ∀ j, a1 j = 0) (h7 : ∀ j, a7 j = 0) (hf : cf_f p0)
    (H : ∀ (c : Int32) (b1 b2 b3 b4 b5 : Nat → Int32), post 0 (c, ff, fp, b1, b2, b3, b4, b5, a6, a7, a8, a9, a10, a11, a12, a13, a14)) :
    ∃ n, wX_emit_24 post p0 p1 p2 p3 fa ff fp a1 a2 a3 a4 a5 a6 a7 a8 a9 a10 a11 a12 a13 a14 n 0 := by
  obtain ⟨k, hk, rfl⟩ := cf_fn hf
  have hin : vp_in (nI k * 8 + a1 (nI k).toNatClampNeg) 24 := by
    rw [h1]
    exact pk_in (k * 8 + 0) 24 (by omega) (cf_mx k 8 0)
  refine pk_loop (σ := Unit) (fun n i _ => wX_emit_24 post (nI k) p1 p2 p3 fa ff fp a1 a2 a3 a4 a5 a6 a7 a8 a9 a10 a11 a12 a13 a14 n (nI i)) (fun _ _ => True) 4 0 () (by omega) trivial
    (fun n _ _ => pk_le 4 4 (fun _ => ⟨cf_fin hf, br_t (by rw [h1]; decide) ⟨cf_fin hf, nm_e ⟨hin, nm_e ⟨hin, nm_e ⟨hin, nm_e ⟨hin, nm_e ⟨cf_fin hf, cf_fin hf, nm_e ⟨cf_fin hf, ?_⟩⟩⟩⟩⟩⟩⟩⟩) (fun z => absurd z (by omega)))
    (fun n i _ hi _ hw => pk_le 4 i (fun z => absurd z (by omega)) (fun _ => ⟨pk_in i 4 hi, br_t (h7 _) (nm_r (nI_1 i) (hw () trivial))⟩))
  rw [pk_us, h1]
  exact H _ _ _ _ _ _
theorem cf_emit {post : Int32 → St2 → Prop} {fa ff fp : Int32} {a1 a2 a3 a4 a5 a6 a7 a8 a9 a10 a11 a12 a13 a14 : Nat → Int32} {p0 p1 p2 p3 : Int32} (h1 : ∀ j, a1 j = 0) (h7 : ∀ j, a7 j = 0)
    (Hb : ¬ (cf_f p0 ∧ ¬ p1 < 0 ∧ p1 ≤ 7) → post (-1) (fa, ff, fp, a1, a2, a3, a4, a5, a6, a7, a8, a9, a10, a11, a12, a13, a14))
    (H : cf_f p0 → ¬ p1 < 0 → p1 ≤ 7 → ∀ (c : Int32) (b1 b2 b3 b4 b5 : Nat → Int32), post 0 (c, ff, fp, b1, b2, b3, b4, b5, a6, a7, a8, a9, a10, a11, a12, a13, a14)) :
    wpX_emit post (fa, ff, fp, a1, a2, a3, a4, a5, a6, a7, a8, a9, a10, a11, a12, a13, a14) p0 p1 p2 p3 :=
  br_c (fun e => Hb (fun t => t.1.1 e)) (fun e0 => br_c (fun e => Hb (fun t => cf_le3.mp e t.1.2)) (fun e1 =>
    have hf : cf_f p0 := ⟨e0, Decidable.byContradiction (fun z => e1 (cf_le3.mpr z))⟩
    br_c (fun e => Hb (fun t => t.2.1 e)) (fun e2 => br_c (fun e3 => cf_emit24 h1 h7 hf (H hf e2 e3)) (fun e => Hb (fun t => e t.2.2)))))
/-- resume where no coroutine has been started -/
theorem cf_resume {post : Int32 → St2 → Prop} {fa ff fp : Int32} {a1 a2 a3 a4 a5 a6 a7 a8 a9 a10 a11 a12 a13 a14 : Nat → Int32} {p0 p1 : Int32} (h7 : ∀ j, a7 j = 0) (Hb : ¬ cf_g p0 → post (-1) (fa, ff, fp, a1, a2, a3, a4, a5, a6, a7, a8, a9, a10, a11, a12, a13, a14)) (H : cf_g p0 → post (-4) (fa, ff, fp, a1, a2, a3, a4, a5, a6, a7, a8, a9, a10, a11, a12, a13, a14)) :
    wpX_resume post (fa, ff, fp, a1, a2, a3, a4, a5, a6, a7, a8, a9, a10, a11, a12, a13, a14) p0 p1 := by
  unfold wpX_resume
  by_cases h : cf_g p0
  · exact cf_badG h (br_t rfl ⟨cf_gin h, br_f (by rw [h7]; decide) ⟨cf_gin h, br_f (by rw [h7]; decide) (H h)⟩⟩)
  · exact cf_badB h (br_f cf_10 (Hb h))
theorem cf_start {post : Int32 → St2 → Prop} {fa ff fp : Int32} {a1 a2 a3 a4 a5 a6 a7 a8 a9 a10 a11 a12 a13 a14 : Nat → Int32} {p0 p1 p2 : Int32} (Hb : ¬ (cf_g p0 ∧ cf_f p1) → post (-1) (fa, ff, fp, a1, a2, a3, a4, a5, a6, a7, a8, a9, a10, a11, a12, a13, a14))
    (H : cf_g p0 → cf_f p1 → ∀ b8 b9 b10 b11 b12 b13 : Nat → Int32, post 0 (fa, ff, fp, a1, a2, a3, a4, a5, a6, upd a7 p0.toNatClampNeg 1, b8, b9, b10, b11, b12, b13, a14)) :
    wpX_start post (fa, ff, fp, a1, a2, a3, a4, a5, a6, a7, a8, a9, a10, a11, a12, a13, a14) p0 p1 p2 := by
  unfold wpX_start
  by_cases h : cf_g p0
  · have v := cf_gin h
    have v4 : vp_in (p0 * 4) 16 := by
      obtain ⟨k, hk, rfl⟩ := cf_gn h
      exact pk_in (k * 4) 16 (by omega) (pk_mul k 4)
    have v16 : vp_in (p0 * 4 * 4) 64 := by
      obtain ⟨k, hk, rfl⟩ := cf_gn h
      exact pk_in (k * 4 * 4) 64 (by omega) (by rw [← pk_mul, ← pk_mul]; rfl)
    exact cf_badG h (br_t rfl (br_c (fun e => Hb (fun t => t.2.1 e)) (fun e0 => br_c
      (fun e1 => ⟨v, nm_e ⟨v, nm_e ⟨v, nm_e ⟨v, nm_e ⟨v4, nm_e ⟨v4, nm_e ⟨v16, nm_e (H h ⟨e0, cf_lt3.mp e1⟩ _ _ _ _ _ _)⟩⟩⟩⟩⟩⟩⟩)
      (fun e1 => Hb (fun t => e1 (cf_lt3.mpr t.2.2))))))
  · exact cf_badB h (br_f cf_10 (Hb (fun t => h t.1)))
theorem cf_state {post : Int32 → Prop} {fa ff fp : Int32} {a1 a2 a3 a4 a5 a6 a7 a8 a9 a10 a11 a12 a13 a14 : Nat → Int32} {p0 : Int32} (Hb : ¬ cf_g p0 → post (-1)) (H : cf_g p0 → post (a7 p0.toNatClampNeg)) :
    wpX_state post (fa, ff, fp, a1, a2, a3, a4, a5, a6, a7, a8, a9, a10, a11, a12, a13, a14) p0 := by
  unfold wpX_state
  by_cases h : cf_g p0
  · exact cf_badG h (br_t rfl ⟨cf_gin h, H h⟩)
  · exact cf_badB h (br_f cf_10 (Hb h))
theorem cf_copy119 {post : Int32 → St2 → Prop} {fa ff fp : Int32} {a1 a2 a3 a4 a5 a6 a7 a8 a9 a10 a11 a12 a13 a14 : Nat → Int32} {k m : Nat} (hk : k ≤ 3) (hm : m ≤ 3) (H : ∀ b13 : Nat → Int32, post (a7 m) (fa, ff, fp, a1, a2, a3, a4, a5, a6, a7, a8, a9, a10, a11, a12, b13, a14)) :
    ∃ n, wX_copy_119 post (nI k) (nI m) fa ff fp n 0 a1 a2 a3 a4 a5 a6 a7 a8 a9 a10 a11 a12 a13 a14 :=
  pk_loop (fun n i s => wX_copy_119 post (nI k) (nI m) fa ff fp n (nI i) a1 a2 a3 a4 a5 a6 a7 a8 a9 a10 a11 a12 s a14) (fun _ _ => True) 16 0 a13 (by omega) trivial
    (fun n s _ => pk_le 16 16 (fun _ => ⟨pk_in m 4 (by omega), by rw [nI_clamp (by omega)]; exact H s⟩) (fun z => absurd z (by omega)))
    (fun n i s hi _ hw => pk_le 16 i (fun z => absurd z (by omega)) (fun _ => ⟨pk_in (k * 16 + i) 64 (by omega) (cf_mx k 16 i), pk_in (m * 16 + i) 64 (by omega) (cf_mx m 16 i), nm_e (nm_r (nI_1 i) (hw _ trivial))⟩))
theorem cf_copy66 {post : Int32 → St2 → Prop} {fa ff fp : Int32} {a1 a2 a3 a4 a5 a6 a7 a8 a9 a10 a11 a12 a13 a14 : Nat → Int32} {k m : Nat} (hk : k ≤ 3) (hm : m ≤ 3) (H : ∀ b11 b12 b13 : Nat → Int32, post (a7 m) (fa, ff, fp, a1, a2, a3, a4, a5, a6, a7, a8, a9, a10, b11, b12, b13, a14)) :
    ∃ n, wX_copy_66 post (nI k) (nI m) fa ff fp n 0 a1 a2 a3 a4 a5 a6 a7 a8 a9 a10 a11 a12 a13 a14 :=
  pk_loop (fun n i (s : (Nat → Int32) × (Nat → Int32)) => wX_copy_66 post (nI k) (nI m) fa ff fp n (nI i) a1 a2 a3 a4 a5 a6 a7 a8 a9 a10 s.1 s.2 a13 a14) (fun _ _ => True) 4 0 (a11, a12) (by omega) trivial
    (fun n s _ => pk_le 4 4 (fun _ => cf_copy119 hk hm (H s.1 s.2)) (fun z => absurd z (by omega)))
    (fun n i s hi _ hw => pk_le 4 i (fun z => absurd z (by omega)) (fun _ => ⟨pk_in (k * 4 + i) 16 (by omega) (cf_mx k 4 i), pk_in (m * 4 + i) 16 (by omega) (cf_mx m 4 i), nm_e ⟨pk_in (k * 4 + i) 16 (by omega) (cf_mx k 4 i), pk_in (m * 4 + i) 16 (by omega) (cf_mx m 4 i), nm_e (nm_r (nI_1 i) (hw (_, _) trivial))⟩⟩))
theorem cf_copy {post : Int32 → St2 → Prop} {fa ff fp : Int32} {a1 a2 a3 a4 a5 a6 a7 a8 a9 a10 a11 a12 a13 a14 : Nat → Int32} {p0 p1 : Int32} (Hb : ¬ (cf_g p0 ∧ cf_g p1) → post (-1) (fa, ff, fp, a1, a2, a3, a4, a5, a6, a7, a8, a9, a10, a11, a12, a13, a14))
    (H : cf_g p0 → cf_g p1 → ∀ b8 b9 b10 b11 b12 b13 : Nat → Int32, post (a7 p0.toNatClampNeg) (fa, ff, fp, a1, a2, a3, a4, a5, a6, upd a7 p1.toNatClampNeg (a7 p0.toNatClampNeg), b8, b9, b10, b11, b12, b13, a14)) :
    wpX_copy post (fa, ff, fp, a1, a2, a3, a4, a5, a6, a7, a8, a9, a10, a11, a12, a13, a14) p0 p1 := by
  unfold wpX_copy
  by_cases h : cf_g p0
  · refine cf_badG h (br_t rfl ?_)
    by_cases h' : cf_g p1
    · refine cf_badG h' (br_t rfl ?_)
      have v := cf_gin h
      have v' := cf_gin h'
      refine ⟨v, v', nm_e ⟨v, v', nm_e ⟨v, v', nm_e ⟨v, v', nm_e ?_⟩⟩⟩⟩
      have H' := H h h'
      obtain ⟨k, hk, rfl⟩ := cf_gn h
      obtain ⟨m, hm, rfl⟩ := cf_gn h'
      refine cf_copy66 hk hm (fun b11 b12 b13 => ?_)
      rw [nI_clamp (show m < 2 ^ 31 by omega)] at H' ⊢
      rw [pk_us]
      exact H' _ _ _ _ _ _
    · exact cf_badB h' (br_f cf_10 (Hb (fun t => h' t.2)))
  · exact cf_badB h (br_f cf_10 (Hb (fun t => h t.1)))
theorem cf_drop {post : Int32 → St2 → Prop} {fa ff fp : Int32} {a1 a2 a3 a4 a5 a6 a7 a8 a9 a10 a11 a12 a13 a14 : Nat → Int32} {p0 : Int32} (Hb : ¬ cf_g p0 → post (-1) (fa, ff, fp, a1, a2, a3, a4, a5, a6, a7, a8, a9, a10, a11, a12, a13, a14))
    (H : cf_g p0 → ∀ b7 b8 b9 b10 : Nat → Int32, post (a7 p0.toNatClampNeg) (fa, ff, fp, a1, a2, a3, a4, a5, a6, b7, b8, b9, b10, a11, a12, a13, a14)) :
    wpX_drop post (fa, ff, fp, a1, a2, a3, a4, a5, a6, a7, a8, a9, a10, a11, a12, a13, a14) p0 := by
  unfold wpX_drop
  by_cases h : cf_g p0
  · have v := cf_gin h
    refine cf_badG h (br_t rfl ⟨v, nm_e ?_⟩)
    exact ⟨v, nm_e ⟨v, nm_e ⟨v, nm_e ⟨v, nm_e (H h _ _ _ _)⟩⟩⟩⟩
  · exact cf_badB h (br_f cf_10 (Hb h))
end
section
/-- what the coroutine x holds: READY (1) where 'no' (y) is 0, else NONE (0) -/
def cf_A (x y : Int32) (s : Nat → Int32) : Prop := (y = 0 → s x.toNatClampNeg = 1) ∧ (¬ y = 0 → s x.toNatClampNeg = 0)
theorem cf_217 {post : Int32 → St0 → Prop} {mc ms kc ks : Nat} {fa ff fp : Int32} {a1 a2 a3 a4 a5 a6 a7 a8 a9 a10 a11 a12 a13 a14 : Nat → Int32} {x2 x7 x8 z0 z1 : Int32} (hp : post 1 ()) (hz : z1 = z0) (h7 : x7 = 0 ↔ cf_g x2) (hA : cf_g x2 → cf_A x2 x8 a7) :
    wL_lawOf_217 post mc ms x2 x7 x8 z0 z1 kc ks fa ff fp a1 a2 a3 a4 a5 a6 a7 a8 a9 a10 a11 a12 a13 a14 :=
  br_t hz (cf_drop (fun hb => br_f (fun e => hb (h7.mp e)) (br_t rfl hp))
    (fun hg _ _ _ _ => br_t (h7.mpr hg) (br_c (fun e => br_t ((hA hg).1 e) hp) (fun e => br_t ((hA hg).2 e) hp))))
theorem cf_189 {post : Int32 → St0 → Prop} {mc ms kc ks : Nat} {fa ff fp : Int32} {a1 a2 a3 a4 a5 a6 a7 a8 a9 a10 a11 a12 a13 a14 : Nat → Int32} {x2 x3 x7 x8 z0 : Int32} (hp : post 1 ()) (h7 : x7 = 0 ↔ cf_g x2) (hz : z0 = 0 ↔ cf_g x2 ∧ cf_g x3) (hA : cf_g x2 → cf_A x2 x8 a7) :
    wL_lawOf_189 post mc ms x2 x3 x7 x8 z0 kc ks fa ff fp a1 a2 a3 a4 a5 a6 a7 a8 a9 a10 a11 a12 a13 a14 :=
  cf_copy (fun hb => br_f (fun e => hb (hz.mp e)) (cf_217 hp rfl h7 hA))
    (fun hg hg' _ _ _ _ _ _ =>
      have hA' : cf_g x2 → cf_A x2 x8 (upd a7 x3.toNatClampNeg (a7 x2.toNatClampNeg)) := fun h => by
        unfold cf_A
        rw [cf_uu]
        exact hA h
      br_t (hz.mpr ⟨hg, hg'⟩) (br_c (fun e => cf_217 hp ((hA hg).1 e) h7 hA') (fun e => cf_217 hp ((hA hg).2 e) h7 hA')))
theorem cf_165 {post : Int32 → St0 → Prop} {mc ms kc ks : Nat} {fa ff fp : Int32} {a1 a2 a3 a4 a5 a6 a7 a8 a9 a10 a11 a12 a13 a14 : Nat → Int32} {x2 x3 x7 x8 z0 z1 : Int32} (hp : post 1 ()) (hz : z1 = z0) (h7 : x7 = 0 ↔ cf_g x2) (hA : cf_g x2 → cf_A x2 x8 a7) :
    wL_lawOf_165 post mc ms x2 x3 x7 x8 z0 z1 kc ks fa ff fp a1 a2 a3 a4 a5 a6 a7 a8 a9 a10 a11 a12 a13 a14 :=
  have far : ¬ (cf_g x2 ∧ cf_g x3) → wL_lawOf_184 post mc ms x2 x3 x7 x8 kc ks fa ff fp a1 a2 a3 a4 a5 a6 a7 a8 a9 a10 a11 a12 a13 a14 := fun h => cf_189 hp h7 ⟨fun z => absurd z cf_10, fun z => absurd z h⟩ hA
  br_t hz (br_c (fun e => br_c (fun l => far (fun t => t.2.1 l)) (fun l => br_c (fun m => cf_189 hp h7 ⟨fun _ => ⟨h7.mp e, l, m⟩, fun _ => rfl⟩ hA) (fun m => far (fun t => m t.2.2)))) (fun e => far (fun t => e (h7.mpr t.1))))
theorem cf_135 {post : Int32 → St0 → Prop} {mc ms kc ks : Nat} {fa ff fp : Int32} {a1 a2 a3 a4 a5 a6 a7 a8 a9 a10 a11 a12 a13 a14 : Nat → Int32} {x2 x3 x7 x8 z0 z1 : Int32} (hp : post 1 ()) (hz : z1 = z0) (h7 : x7 = 0 ↔ cf_g x2) (hA : cf_g x2 → cf_A x2 x8 a7) :
    wL_lawOf_135 post mc ms x2 x3 x7 x8 z0 z1 kc ks fa ff fp a1 a2 a3 a4 a5 a6 a7 a8 a9 a10 a11 a12 a13 a14 :=
  br_t hz (cf_state (fun hb => br_f (fun e => hb (h7.mp e)) (cf_165 hp rfl h7 hA))
    (fun hg => br_t (h7.mpr hg) (br_c (fun e => cf_165 hp ((hA hg).1 e) h7 hA) (fun e => cf_165 hp ((hA hg).2 e) h7 hA))))
theorem cf_114 {post : Int32 → St0 → Prop} {mc ms kc ks : Nat} {fa ff fp : Int32} {a1 a2 a3 a4 a5 a6 a7 a8 a9 a10 a11 a12 a13 a14 : Nat → Int32} {x0 x2 x3 x4 x7 z0 : Int32} (hp : post 1 ()) (h0 : ∀ j, a7 j = 0) (h7 : x7 = 0 ↔ cf_g x2) (hz : z0 = 0 ↔ cf_g x2 ∧ cf_f x0) :
    wL_lawOf_114 post mc ms x0 x2 x3 x4 x7 z0 kc ks fa ff fp a1 a2 a3 a4 a5 a6 a7 a8 a9 a10 a11 a12 a13 a14 :=
  cf_start (fun hb => br_f (fun e => hb (hz.mp e)) (cf_135 hp rfl h7 (fun _ => ⟨fun e => absurd (hz.mp e) hb, fun _ => h0 _⟩)))
    (fun hg hf _ _ _ _ _ _ => br_t (hz.mpr ⟨hg, hf⟩) (cf_135 hp rfl h7 (fun _ => ⟨fun _ => pk_us, fun e => absurd (hz.mpr ⟨hg, hf⟩) e⟩)))
theorem cf_94 {post : Int32 → St0 → Prop} {mc ms kc ks : Nat} {fa ff fp : Int32} {a1 a2 a3 a4 a5 a6 a7 a8 a9 a10 a11 a12 a13 a14 : Nat → Int32} {x0 x2 x3 x4 x6 x7 z0 z1 : Int32} (hp : post 1 ()) (hz : z1 = z0) (h0 : ∀ j, a7 j = 0) (h6 : x6 = 0 ↔ cf_f x0) (h7 : x7 = 0 ↔ cf_g x2) :
    wL_lawOf_94 post mc ms x0 x2 x3 x4 x6 x7 z0 z1 kc ks fa ff fp a1 a2 a3 a4 a5 a6 a7 a8 a9 a10 a11 a12 a13 a14 :=
  have no : ¬ (cf_g x2 ∧ cf_f x0) → wL_lawOf_109 post mc ms x0 x2 x3 x4 x7 kc ks fa ff fp a1 a2 a3 a4 a5 a6 a7 a8 a9 a10 a11 a12 a13 a14 := fun h => cf_114 hp h0 h7 ⟨fun z => absurd z cf_10, fun z => absurd z h⟩
  br_t hz (br_c (fun e => br_c (fun e6 => cf_114 hp h0 h7 ⟨fun _ => ⟨h7.mp e, h6.mp e6⟩, fun _ => rfl⟩) (fun e6 => no (fun t => e6 (h6.mpr t.2)))) (fun e => no (fun t => e (h7.mpr t.1))))
theorem cf_71 {post : Int32 → St0 → Prop} {mc ms kc ks : Nat} {fa ff fp : Int32} {a1 a2 a3 a4 a5 a6 a7 a8 a9 a10 a11 a12 a13 a14 : Nat → Int32} {x0 x2 x3 x4 x6 x7 z0 z1 : Int32} (hp : post 1 ()) (hz : z1 = z0) (h0 : ∀ j, a7 j = 0) (h6 : x6 = 0 ↔ cf_f x0) (h7 : x7 = 0 ↔ cf_g x2) :
    wL_lawOf_71 post mc ms x0 x2 x3 x4 x6 x7 z0 z1 kc ks fa ff fp a1 a2 a3 a4 a5 a6 a7 a8 a9 a10 a11 a12 a13 a14 :=
  br_t hz (cf_resume h0 (fun hb => br_f (fun e => hb (h7.mp e)) (cf_94 hp rfl h0 h6 h7)) (fun hg => br_t (h7.mpr hg) (cf_94 hp rfl h0 h6 h7)))
theorem cf_39 {post : Int32 → St0 → Prop} {mc ms kc ks : Nat} {fa ff fp : Int32} {a1 a2 a3 a4 a5 a6 a7 a8 a9 a10 a11 a12 a13 a14 : Nat → Int32} {x0 x1 x2 x3 x4 x6 z0 : Int32} (hp : post 1 ()) (h1 : ∀ j, a1 j = 0) (h0 : ∀ j, a7 j = 0) (h6 : x6 = 0 ↔ cf_f x0) (h7 : z0 = 0 ↔ cf_g x2) :
    wL_lawOf_39 post mc ms x0 x1 x2 x3 x4 x6 z0 kc ks fa ff fp a1 a2 a3 a4 a5 a6 a7 a8 a9 a10 a11 a12 a13 a14 :=
  have odd : wL_lawOf_66 post mc ms x0 x2 x3 x4 x6 z0 (-1) kc ks fa ff fp a1 a2 a3 a4 a5 a6 a7 a8 a9 a10 a11 a12 a13 a14 := cf_71 hp rfl h0 h6 h7
  cf_emit h1 h0 (fun hb => br_c (fun e => br_c (fun _ => odd) (fun l => br_c (fun m => absurd ⟨h6.mp e, l, m⟩ hb) (fun _ => odd))) (fun _ => odd))
    (fun hf l m _ _ _ _ _ _ => br_t (h6.mpr hf) (br_f l (br_t m (cf_71 hp rfl h0 h6 h7))))
theorem cf_23 {post : Int32 → St0 → Prop} {mc ms kc ks : Nat} {fa ff fp : Int32} {a1 a2 a3 a4 a5 a6 a7 a8 a9 a10 a11 a12 a13 a14 : Nat → Int32} {x0 x1 x2 x3 x4 z0 : Int32} (hp : post 1 ()) (h1 : ∀ j, a1 j = 0) (h0 : ∀ j, a7 j = 0) (h6 : z0 = 0 ↔ cf_f x0) :
    wL_lawOf_23 post mc ms x0 x1 x2 x3 x4 z0 kc ks fa ff fp a1 a2 a3 a4 a5 a6 a7 a8 a9 a10 a11 a12 a13 a14 :=
  have bad : ¬ cf_g x2 → wL_lawOf_34 post mc ms x0 x1 x2 x3 x4 z0 kc ks fa ff fp a1 a2 a3 a4 a5 a6 a7 a8 a9 a10 a11 a12 a13 a14 := fun h => cf_39 hp h1 h0 h6 ⟨fun z => absurd z cf_10, fun z => absurd z h⟩
  br_c (fun l => bad (fun t => t.1 l)) (fun l => br_c (fun m => cf_39 hp h1 h0 h6 ⟨fun _ => ⟨l, m⟩, fun _ => rfl⟩) (fun m => bad (fun t => m t.2)))
theorem cf_law {post : Int32 → St0 → Prop} {u : St0} {p0 p1 p2 p3 p4 : Int32} (hp : post 1 ()) : wpL_lawOf post 100 1000 u p0 p1 p2 p3 p4 := by
  refine ⟨by decide, by decide, 50, 500, by decide, by decide, ?_⟩
  refine ⟨by decide, by decide, by decide, by decide, by decide, by decide, by decide, by decide, by decide, by decide, by decide, by decide, by decide, by decide, by decide, by decide, by decide, by decide, by decide, by decide, by decide, by decide, by decide, by decide, by decide, by decide, by decide, by decide, ?_⟩
  have odd : ¬ cf_f p0 → wL_lawOf_18 post 100 1000 p0 p1 p2 p3 p4 (1 + 50) (17 + 500) 0 0 0 (fun _ => 0) (fun _ => 0) (fun _ => 0) (fun _ => 0) (fun _ => 0) (fun _ => 0) (fun _ => 0) (fun _ => 0) (fun _ => 0) (fun _ => 0) (fun _ => 0) (fun _ => 0) (fun _ => 0) (fun _ => 0) :=
    fun h => cf_23 hp (fun _ => rfl) (fun _ => rfl) ⟨fun z => absurd z cf_10, fun z => absurd z h⟩
  exact br_c (fun l => odd (fun t => t.1 l)) (fun l => br_c (fun m => cf_23 hp (fun _ => rfl) (fun _ => rfl) ⟨fun _ => ⟨l, m⟩, fun _ => rfl⟩) (fun m => odd (fun t => m t.2)))
theorem cf_cell {post : Int32 → Prop} {L : Nat} {xs : Nat → Int32} {u : St0} {p : Int32} (i : Nat) (hL : L ≤ 5) (hi : i < 5) (hp : p = nI i) (H : ∀ r, post r) : wpL_cellAt post L xs u p := by
  subst hp
  exact pk_le L i (fun _ => H _) (fun z => ⟨pk_in i L z, H _⟩)
theorem i_vc (xs : Nat → Int32) (L : Nat) (hL : L ≤ 5) : wpL_law (fun r => r = 1) L xs :=
  cf_cell 0 hL (by omega) rfl (fun _ => cf_cell 1 hL (by omega) rfl (fun _ => cf_cell 2 hL (by omega) rfl (fun _ => cf_cell 3 hL (by omega) rfl (fun _ => cf_cell 4 hL (by omega) rfl (fun _ =>
    ⟨100, 1000, by decide, by decide, cf_law rfl⟩)))))
end

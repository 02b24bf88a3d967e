/-! ===== the island of the class written ===== -/
theorem up1_ne {α : Type} {f : Nat → α} {k : Nat} {v : α} {j : Nat} (h : ¬ j = k) : up1 f k v j = f j := if_neg h
theorem up1_eq {α : Type} {f : Nat → α} {k : Nat} {v : α} : up1 f k v k = v := if_pos rfl
theorem row7_c {N N' : Nw} {r : Nat} (h : ∀ c, c < 7 → N' (40 + 7 * r + c) = N (40 + 7 * r + c)) : row7 N' r = row7 N r := by
  unfold row7
  rw [h 1 (by decide), h 2 (by decide), h 3 (by decide), h 4 (by decide), h 5 (by decide), h 6 (by decide), show N' (40 + 7 * r) = N (40 + 7 * r) from h 0 (by decide)]
/-- the island's own -/
def isP7 (i : Nat) : Nat → Nat → Prop := fun q _ => i ≤ q ∧ q < i + 7
section XUP
variable {w w' : Wd} {b i : Nat} {o : Option Nat} {A : Ab} {N N' : Nw}
theorem isl.nv (h : isl w b i N) {v : Nat} (hv : isV w b v) : ¬ (i ≤ v ∧ v < i + 7) := by
  rintro ⟨h1, h2⟩
  obtain ⟨-, -, c, hc, h26⟩ := hv
  rcases (show v = i ∨ v = i + 1 ∨ v = i + 2 ∨ v = i + 3 ∨ v = i + 4 ∨ v = i + 5 ∨ v = i + 6 by omega) with rfl | rfl | rfl | rfl | rfl | rfl | rfl
  · rw [h.t0] at hc; cases hc
  · rw [h.t1] at hc; cases hc
  · rw [h.t2] at hc; cases hc
  · rw [h.t3] at hc; cases hc
  · rw [h.t4] at hc; cases hc
  · rw [h.t5] at hc; cases hc
  · rw [h.t6] at hc; cases hc
theorem isl.up (h : isl w b i N) (hf : fr (isP7 i) w w') (hG : ∀ k, wG w' i k = wG w i k) (hQ : wQ w' (i + 2) = wQ w (i + 2)) (e89 : N' 89 = N 89) (f106 : wF w' i 106 = N' 90) (f107 : wF w' i 107 = N' 89) (f108 : wF w' i 108 = N' 94) (f109 : wF w' i 109 = N' 95) (f110 : wF w' i 110 = N' 96) (ho : ∀ t, t < 3 → wI w' (i + 6) t = N' (91 + t)) (hpo : ∀ r, r < 7 → wI w' (i + 1) r = row7 N' r) (hp : ∀ p, p < pe N → wI w' (i + 3) p = N' (5 * p + 2) ∧ wI w' (i + 4) p = N' (5 * p + 3) ∧ wI w' (i + 5) p = N' (5 * p + 4) ∧ N' (5 * p) = N (5 * p) ∧ N' (5 * p + 1) = N (5 * p + 1)) : isl w' b i N' := by
  have hz := h.z
  have hz2 := hf.z
  have hpe : pe N' = pe N := by unfold pe; rw [e89]
  refine ⟨⟨hz.1, by omega⟩, hf.T (by omega) h.t0, hf.T (by omega) h.t1, hf.T (by omega) h.t2, hf.T (by omega) h.t3, hf.T (by omega) h.t4, hf.T (by omega) h.t5, hf.T (by omega) h.t6, (hG _).trans h.g100, (hG _).trans h.g101, (hG _).trans h.g102, (hG _).trans h.g103, (hG _).trans h.g104, (hG _).trans h.g105, f106, f107, f108, f109, f110, ho 0 (by decide), ho 1 (by decide), ho 2 (by decide), hpo, fun p hp' => ?_, fun p hp' h8 => (congrFun hQ _).trans (h.no p (by rwa [hpe] at hp') h8)⟩
  rw [hpe] at hp'
  obtain ⟨a1, a2, a3, v, a4, a5⟩ := h.pr p hp'
  obtain ⟨b1, b2, b3, b4, b5⟩ := hp p hp'
  refine ⟨b1, b2, b3, v, (congrFun hQ _).trans a4, ?_⟩
  rw [b4, b5]
  exact a5.sc hf (fun k => h.nv a5.isV)
theorem isl.upI (h : isl w b i N) {a t : Nat} {v : Int32} (ha : i < a ∧ a < i + 7) (e89 : N' 89 = N 89) (e90 : N' 90 = N 90) (e94 : N' 94 = N 94) (e95 : N' 95 = N 95) (e96 : N' 96 = N 96) (ho : ∀ t', t' < 3 → wI (sI w a t v) (i + 6) t' = N' (91 + t')) (hpo : ∀ r, r < 7 → wI (sI w a t v) (i + 1) r = row7 N' r) (hp : ∀ p, p < pe N → wI (sI w a t v) (i + 3) p = N' (5 * p + 2) ∧ wI (sI w a t v) (i + 4) p = N' (5 * p + 3) ∧ wI (sI w a t v) (i + 5) p = N' (5 * p + 4) ∧ N' (5 * p) = N (5 * p) ∧ N' (5 * p + 1) = N (5 * p + 1)) : isl (sI w a t v) b i N' :=
  h.up ((fr.refl _ _).sI (fun _ => ⟨by omega, ha.2⟩)) (fun _ => rfl) rfl e89 (h.f106.trans e90.symm) (h.f107.trans e89.symm) (h.f108.trans e94.symm) (h.f109.trans e95.symm) (h.f110.trans e96.symm) ho hpo hp
theorem isl.upF (h : isl w b i N) {k : Nat} {v : Int32} (hN : ∀ j, j < 94 → ¬ j = 90 → N' j = N j) (f106 : wF (sF w i k v) i 106 = N' 90) (f107 : wF (sF w i k v) i 107 = N' 89) (f108 : wF (sF w i k v) i 108 = N' 94) (f109 : wF (sF w i k v) i 109 = N' 95) (f110 : wF (sF w i k v) i 110 = N' 96) (h8 : pe N ≤ 8) : isl (sF w i k v) b i N' := by
  refine h.up ((fr.refl _ _).sF (fun _ => ⟨by omega, by omega⟩)) (fun _ => rfl) rfl (hN 89 (by decide) (by decide)) f106 f107 f108 f109 f110 (fun t ht => ?_) (fun r hr => ?_) (fun p hp => ?_)
  · rw [hN _ (by omega) (by omega)]
    rcases (show t = 0 ∨ t = 1 ∨ t = 2 by omega) with rfl | rfl | rfl
    · exact h.o0
    · exact h.o1
    · exact h.o2
  · rw [row7_c (fun c hc => hN _ (by omega) (by omega))]
    exact h.po r hr
  · obtain ⟨a1, a2, a3, -⟩ := h.pr p hp
    rw [hN _ (by omega) (by omega), hN _ (by omega) (by omega), hN _ (by omega) (by omega)]
    exact ⟨a1, a2, a3, hN _ (by omega) (by omega), hN _ (by omega) (by omega)⟩
theorem isl.oo (h : isl w b i N) : ∀ t, t < 3 → wI w (i + 6) t = N (91 + t) := by
  intro t ht
  rcases (show t = 0 ∨ t = 1 ∨ t = 2 by omega) with rfl | rfl | rfl
  · exact h.o0
  · exact h.o1
  · exact h.o2
theorem isl.p3 (h : isl w b i N) {p : Nat} (hp : p < pe N) : wI w (i + 3) p = N (5 * p + 2) ∧ wI w (i + 4) p = N (5 * p + 3) ∧ wI w (i + 5) p = N (5 * p + 4) := ⟨(h.pr p hp).1, (h.pr p hp).2.1, (h.pr p hp).2.2.1⟩
/-- what is told, written -/
theorem isl.wTold (h : isl w b i N) (h8 : pe N ≤ 8) {t : Nat} (ht : t < 3) (v : Int32) : isl (sI w (i + 6) t v) b i (up1 N (91 + t) v) := by
  refine h.upI (by omega) (up1_ne (by omega)) (up1_ne (by omega)) (up1_ne (by omega)) (up1_ne (by omega)) (up1_ne (by omega)) (fun t' ht' => ?_) (fun r hr => ?_) (fun p hp => ?_)
  · rw [wI_sI]
    by_cases e : t' = t
    · rw [if_pos ⟨rfl, e⟩, e, up1_eq]
    · rw [if_neg (fun q => e q.2), up1_ne (by omega)]
      exact h.oo t' ht'
  · rw [wI_sI, if_neg (by omega), row7_c (fun c hc => up1_ne (by omega))]
    exact h.po r hr
  · rw [wI_sI, wI_sI, wI_sI, if_neg (by omega), if_neg (by omega), if_neg (by omega), up1_ne (by omega), up1_ne (by omega), up1_ne (by omega), up1_ne (by omega), up1_ne (by omega)]
    have := h.p3 hp
    exact ⟨this.1, this.2.1, this.2.2, rfl, rfl⟩
/-- a person's cell, face, and what one is for, written -/
theorem isl.wP (h : isl w b i N) (h8 : pe N ≤ 8) {d p : Nat} (hd : 2 ≤ d ∧ d < 5) (hp0 : p < pe N) (v : Int32) : isl (sI w (i + (d + 1)) p v) b i (up1 N (5 * p + d) v) := by
  refine h.upI (by omega) (up1_ne (by omega)) (up1_ne (by omega)) (up1_ne (by omega)) (up1_ne (by omega)) (up1_ne (by omega)) (fun t' ht' => ?_) (fun r hr => ?_) (fun p' hp => ?_)
  · rw [wI_sI, if_neg (by omega), up1_ne (by omega)]
    exact h.oo t' ht'
  · rw [wI_sI, if_neg (by omega), row7_c (fun c hc => up1_ne (by omega))]
    exact h.po r hr
  · have := h.p3 hp
    rw [wI_sI, wI_sI, wI_sI, up1_ne (show ¬ 5 * p' = 5 * p + d by omega), up1_ne (show ¬ 5 * p' + 1 = 5 * p + d by omega)]
    have key : ∀ d', 2 ≤ d' → d' < 5 → wI w (i + (d' + 1)) p' = N (5 * p' + d') → (if i + (d' + 1) = i + (d + 1) ∧ p' = p then v else wI w (i + (d' + 1)) p') = up1 N (5 * p + d) v (5 * p' + d') := by
      intro d' h1 h2 e
      by_cases c : d' = d ∧ p' = p
      · rw [if_pos (by omega), c.1, c.2, up1_eq]
      · rw [if_neg (by omega), up1_ne (by omega)]
        exact e
    exact ⟨key 2 (by decide) (by decide) this.1, key 3 (by decide) (by decide) this.2.1, key 4 (by decide) (by decide) this.2.2, rfl, rfl⟩
/-- a row of ponds, written -/
theorem isl.wPond (h : isl w b i N) (h8 : pe N ≤ 8) {r c : Nat} (hr : r < 7) (hc : c < 7) {x v : Int32} (hx : x = row7 (up1 N (40 + 7 * r + c) v) r) : isl (sI w (i + 1) r x) b i (up1 N (40 + 7 * r + c) v) := by
  refine h.upI (by omega) (up1_ne (by omega)) (up1_ne (by omega)) (up1_ne (by omega)) (up1_ne (by omega)) (up1_ne (by omega)) (fun t' ht' => ?_) (fun r' hr' => ?_) (fun p' hp => ?_)
  · rw [wI_sI, if_neg (by omega), up1_ne (by omega)]
    exact h.oo t' ht'
  · rw [wI_sI]
    by_cases e : r' = r
    · rw [if_pos ⟨rfl, e⟩, e]
      exact hx
    · rw [if_neg (fun q => e q.2), row7_c (fun c' hc' => up1_ne (by omega))]
      exact h.po r' hr'
  · rw [wI_sI, wI_sI, wI_sI, if_neg (by omega), if_neg (by omega), if_neg (by omega), up1_ne (by omega), up1_ne (by omega), up1_ne (by omega), up1_ne (by omega), up1_ne (by omega)]
    have := h.p3 hp
    exact ⟨this.1, this.2.1, this.2.2, rfl, rfl⟩
theorem isl.wSide (h : isl w b i N) (h8 : pe N ≤ 8) (v : Int32) : isl (sF w i 106 v) b i (up1 N 90 v) :=
  h.upF (fun j hj hn => up1_ne (by omega)) (by rw [wF_sF, if_pos ⟨rfl, rfl⟩, up1_eq]) (by rw [wF_sF, if_neg (by omega), up1_ne (by omega)]; exact h.f107) (by rw [wF_sF, if_neg (by omega), up1_ne (by omega)]; exact h.f108) (by rw [wF_sF, if_neg (by omega), up1_ne (by omega)]; exact h.f109) (by rw [wF_sF, if_neg (by omega), up1_ne (by omega)]; exact h.f110) h8
theorem isl.wYears (h : isl w b i N) (h8 : pe N ≤ 8) (v : Int32) : isl (sF w i 108 v) b i (up1 N 94 v) :=
  h.upF (fun j hj hn => up1_ne (by omega)) (by rw [wF_sF, if_neg (by omega), up1_ne (by omega)]; exact h.f106) (by rw [wF_sF, if_neg (by omega), up1_ne (by omega)]; exact h.f107) (by rw [wF_sF, if_pos ⟨rfl, rfl⟩, up1_eq]) (by rw [wF_sF, if_neg (by omega), up1_ne (by omega)]; exact h.f109) (by rw [wF_sF, if_neg (by omega), up1_ne (by omega)]; exact h.f110) h8
theorem isl.wFell (h : isl w b i N) (h8 : pe N ≤ 8) (v : Int32) : isl (sF w i 109 v) b i (up1 N 95 v) :=
  h.upF (fun j hj hn => up1_ne (by omega)) (by rw [wF_sF, if_neg (by omega), up1_ne (by omega)]; exact h.f106) (by rw [wF_sF, if_neg (by omega), up1_ne (by omega)]; exact h.f107) (by rw [wF_sF, if_neg (by omega), up1_ne (by omega)]; exact h.f108) (by rw [wF_sF, if_pos ⟨rfl, rfl⟩, up1_eq]) (by rw [wF_sF, if_neg (by omega), up1_ne (by omega)]; exact h.f110) h8
theorem isl.wSeed (h : isl w b i N) (h8 : pe N ≤ 8) (v : Int32) : isl (sF w i 110 v) b i (up1 N 96 v) :=
  h.upF (fun j hj hn => up1_ne (by omega)) (by rw [wF_sF, if_neg (by omega), up1_ne (by omega)]; exact h.f106) (by rw [wF_sF, if_neg (by omega), up1_ne (by omega)]; exact h.f107) (by rw [wF_sF, if_neg (by omega), up1_ne (by omega)]; exact h.f108) (by rw [wF_sF, if_neg (by omega), up1_ne (by omega)]; exact h.f109) (by rw [wF_sF, if_pos ⟨rfl, rfl⟩, up1_eq]) h8
/-- the island written: the class says it -/
theorem XX.upd (h : XX w b i o A) (hf : fr (isP7 i) w w') (hi : isl w' b i N') (hpe : pe (aN A) ≤ pe N') (hq : ∀ p, p < pe (aN A) → wQ w' (i + 2) p = wQ w (i + 2) p) : XX w' b i o (zN A N') ∧ fr (xQ b) w w' := by
  have hz := h.sh.z
  have hz2 := hf.z
  have hiz := h.is.z
  have hn : ∀ q k, (q = b ∨ (b + 8 ≤ q ∧ q < b + 60) ∨ q < b) → ¬ isP7 i q k := fun q k hc hp => by unfold isP7 at hp; omega
  have hS : ∀ s, s < 8 → wG w' (b + 17 + s) 300 = wG w (b + 17 + s) 300 := fun s hs => hf.G (by omega) (hn _ _ (by omega))
  refine ⟨⟨h.sh.sc hf (fun q k hp => by unfold isP7 at hp; omega), hi, (hf.G (by omega) (hn _ _ (by omega))).trans h.g0, (hf.G (by omega) (hn _ _ (by omega))).trans h.g1, fun k hk => (congrFun (hf.I (by omega) (hn _ _ (by omega))) k).trans (h.Tt k hk), (hf.F (by omega) (hn _ _ (by omega))).trans h.Z, fun k hk => (congrFun (hf.I (by omega) (hn _ _ (by omega))) k).trans (h.R k hk), h.im, fun j hj => ⟨(h.ik j hj).1.sc hf (fun q k h1 h2 hp => by have := (h.ik j hj).2; unfold isP7 at hp; omega) (fun v k hv hp => h.is.nv hv hp), (h.ik j hj).2⟩, fun s hs => ?_, fun s t q h1 h2 h3 h4 h5 => ?_⟩, hf.mono (fun q k hq hp => by unfold isP7 at hp; unfold xQ; omega)⟩
  · rcases h.sf s hs with ⟨a1, a2⟩ | ⟨v, p, a1, a2, a3, a4⟩ | ⟨q, a1, a2⟩
    · exact Or.inl ⟨(hS s hs).trans a1, a2⟩
    · exact Or.inr (Or.inl ⟨v, p, (hS s hs).trans a1, Nat.lt_of_lt_of_le a2 hpe, (hq p a2).trans a3, a4⟩)
    · exact Or.inr (Or.inr ⟨q, (hS s hs).trans a1, a2.sc hf a2.2.2.2.2.1⟩)
  · rw [hS s h1] at h3
    rw [hS t h2] at h4
    have hqz : q < wz w := by
      rcases h.sf s h1 with ⟨a1, a2⟩ | ⟨v, p, a1, a2, a3, a4⟩ | ⟨q', a1, a2⟩
      · rw [a1] at h3; cases h3
      · rw [a1] at h3; cases h3
        obtain ⟨-, -, -, v', b1, b2⟩ := h.is.pr p a2
        rw [b1] at a3; cases a3
        exact b2.1.2
      · rw [a1] at h3; cases h3
        exact a2.1.2
    obtain ⟨c, n, h5, h6⟩ := h5
    rw [(hf.2 q hqz).1] at h5
    exact h.dj s t q h1 h2 h3 h4 ⟨c, n, h5, h6⟩
theorem XX.upI (h : XX w b i o A) {a t : Nat} {v : Int32} (ha : i ≤ a ∧ a < i + 7) (hi : isl (sI w a t v) b i N') (hpe : pe N' = pe (aN A)) : XX (sI w a t v) b i o (zN A N') ∧ fr (xQ b) w (sI w a t v) :=
  h.upd ((fr.refl _ _).sI (fun _ => ha)) hi (by omega) (fun _ _ => rfl)
theorem XX.upF (h : XX w b i o A) {k : Nat} {v : Int32} (hi : isl (sF w i k v) b i N') (hpe : pe N' = pe (aN A)) : XX (sF w i k v) b i o (zN A N') ∧ fr (xQ b) w (sF w i k v) :=
  h.upd ((fr.refl _ _).sF (fun _ => ⟨Nat.le_refl _, by omega⟩)) hi (by omega) (fun _ _ => rfl)
end XUP

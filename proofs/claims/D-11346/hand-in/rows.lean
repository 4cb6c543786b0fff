section
/-! ===== BucketVersions: the methods, one lemma each, over any state that shows the values asked for ===== -/
section
variable {ty bu ke ma th k : Int32} {a1 a2 a3 a4 a5 a6 a7 a8 a9 a10 : Nat → Int32}
/-! the directory -/
theorem bv_seek0 {post : Int32 → Prop} (hp : post 0) : wpX_seek post (ty, bu, 0, ma, th, a1, a2, a3, a4, a5, a6, a7, a8, a9, a10) k :=
  ⟨1, br_t (by decide) hp⟩
theorem bv_seek1 {post : Int32 → Prop} (hk : k ≤ a1 0) (hp : post 0) : wpX_seek post (ty, bu, 1, ma, th, a1, a2, a3, a4, a5, a6, a7, a8, a9, a10) k :=
  ⟨2, br_f (by decide) ⟨by decide, nm_r (e' := 0) (by decide) ⟨pk_in 0 24 (by omega), br_t hk (br_t (by decide) hp)⟩⟩⟩
theorem bv_place0 {post : Int32 → Prop} (hp : post (-1)) : wpX_placeOf post (ty, bu, 0, ma, th, a1, a2, a3, a4, a5, a6, a7, a8, a9, a10) k := by
  unfold wpX_placeOf
  exact bv_seek0 (br_t (by decide) hp)
theorem bv_place1 {post : Int32 → Prop} (hk : a1 0 = k) (hp : post 0) : wpX_placeOf post (ty, bu, 1, ma, th, a1, a2, a3, a4, a5, a6, a7, a8, a9, a10) k := by
  unfold wpX_placeOf
  refine bv_seek1 ?_ (br_f (by decide) ⟨pk_in 0 24 (by omega), br_t hk hp⟩)
  rw [hk]
  exact Int32.le_refl k
theorem bv_presN {post : Int32 → Prop} (hp : post 0) : wpX_isPresent post (ty, bu, ke, ma, th, a1, a2, a3, a4, a5, a6, a7, a8, a9, a10) (-1) :=
  br_t (by decide) hp
theorem bv_pres1 {post : Int32 → Prop} {v : Nat} (hv : a2 0 = nI v) (hl : v < 24) (h6 : a6 v = 0) (hp : post 1) : wpX_isPresent post (ty, bu, ke, ma, th, a1, a2, a3, a4, a5, a6, a7, a8, a9, a10) 0 := by
  refine br_f (by decide) ⟨pk_in 0 24 (by omega), ?_, br_t ?_ hp⟩
  · show vp_in (a2 0) 24
    rw [hv]
    exact vp_in_nI hl (by omega)
  · show a6 (a2 0).toNatClampNeg = 0
    rw [hv, nI_clamp (by omega)]
    exact h6
theorem bv_pres0 {post : Int32 → Prop} {v : Nat} (hv : a2 0 = nI v) (hl : v < 24) (h6 : ¬ a6 v = 0) (hp : post 0) : wpX_isPresent post (ty, bu, ke, ma, th, a1, a2, a3, a4, a5, a6, a7, a8, a9, a10) 0 := by
  refine br_f (by decide) ⟨pk_in 0 24 (by omega), ?_, br_f ?_ hp⟩
  · show vp_in (a2 0) 24
    rw [hv]
    exact vp_in_nI hl (by omega)
  · show ¬ a6 (a2 0).toNatClampNeg = 0
    rw [hv, nI_clamp (by omega)]
    exact h6
/-! slots -/
theorem bv_free {post : Int32 → Prop} {v : Nat} (hv : v < 23) (hu : ∀ j, j < v → ¬ a3 j = 0) (h0 : a3 v = 0) (hp : post (nI v)) : wpX_freeVersion post (ty, bu, ke, ma, th, a1, a2, a3, a4, a5, a6, a7, a8, a9, a10) :=
  pk_loop (σ := Unit) (fun n i _ => wX_freeVersion_2 post ty bu ke ma th a1 a2 a3 a4 a5 a6 a7 a8 a9 a10 n (nI i)) (fun _ _ => True) v 0 () (by omega) trivial
    (fun n _ _ => pk_le 23 v (fun z => absurd z (by omega)) (fun _ => ⟨pk_in v 24 (by omega), br_t (by rw [nI_clamp (by omega)]; exact h0) hp⟩))
    (fun n i _ hi _ hw => pk_le 23 i (fun z => absurd z (by omega)) (fun _ => ⟨pk_in i 24 (by omega), br_f (by rw [nI_clamp (by omega)]; exact hu i hi) (nm_r (nI_1 i) (hw () trivial))⟩))
theorem bv_slot {post : Int32 → Prop} {v : Nat} (hv : v < 24) (hn : ∀ j, j < v → a3 j = 0 ∨ ¬ a4 j = k) (h3 : ¬ a3 v = 0) (h4 : a4 v = k) (hp : post (nI v)) : wpX_slotOf post (ty, bu, ke, ma, th, a1, a2, a3, a4, a5, a6, a7, a8, a9, a10) k :=
  pk_loop (σ := Unit) (fun n i _ => wX_slotOf_2 post k ty bu ke ma th a1 a2 a3 a4 a5 a6 a7 a8 a9 a10 n (nI i)) (fun _ _ => True) v 0 () (by omega) trivial
    (fun n _ _ => pk_le 24 v (fun z => absurd z (by omega)) (fun _ => ⟨pk_in v 24 (by omega), br_f (by rw [nI_clamp (by omega)]; exact h3) ⟨pk_in v 24 (by omega), br_t (by rw [nI_clamp (by omega)]; exact h4) hp⟩⟩))
    (fun n i _ hi _ hw => pk_le 24 i (fun z => absurd z (by omega)) (fun _ => ⟨pk_in i 24 (by omega), br_c (fun _ => nm_r (nI_1 i) (hw () trivial)) (fun g => ⟨pk_in i 24 (by omega), br_f (by
      rw [nI_clamp (by omega)] at g ⊢
      exact (hn i hi).resolve_left g) (nm_r (nI_1 i) (hw () trivial))⟩)⟩))
theorem bv_slotN {post : Int32 → Prop} (hn : ∀ j, j < 24 → a3 j = 0 ∨ ¬ a4 j = k) (hp : post (-1)) : wpX_slotOf post (ty, bu, ke, ma, th, a1, a2, a3, a4, a5, a6, a7, a8, a9, a10) k :=
  pk_loop (σ := Unit) (fun n i _ => wX_slotOf_2 post k ty bu ke ma th a1 a2 a3 a4 a5 a6 a7 a8 a9 a10 n (nI i)) (fun _ _ => True) 24 0 () (by omega) trivial
    (fun n _ _ => pk_le 24 24 (fun _ => hp) (fun z => absurd z (by omega)))
    (fun n i _ hi _ hw => pk_le 24 i (fun z => absurd z (by omega)) (fun _ => ⟨pk_in i 24 (by omega), br_c (fun _ => nm_r (nI_1 i) (hw () trivial)) (fun g => ⟨pk_in i 24 (by omega), br_f (by
      rw [nI_clamp (by omega)] at g ⊢
      exact (hn i hi).resolve_left g) (nm_r (nI_1 i) (hw () trivial))⟩)⟩))
/-! a version added: the first key, and a newer version of the key that stands at place 0 -/
theorem bv_add0 {post : Int32 → St2 → Prop} {c mk : Int32} (h3 : a3 0 = 0)
    (hp : post ma (ty, bu, 1, ma + 1, th + 1, upd a1 0 k, upd a2 0 0, upd a3 0 1, upd a4 0 ma, upd a5 0 c, upd a6 0 (vp_nar .boolean mk), upd a7 0 (-1), a8, a9, a10)) :
    wpX_addVersion post (ty, bu, 0, ma, th, a1, a2, a3, a4, a5, a6, a7, a8, a9, a10) k c mk := by
  unfold wpX_addVersion
  refine bv_free (v := 0) (by omega) (fun j z => absurd z (by omega)) h3 ?_
  refine ⟨pk_in 0 24 (by omega), nm_e ⟨pk_in 0 24 (by omega), nm_e ⟨pk_in 0 24 (by omega), nm_e ⟨pk_in 0 24 (by omega), nm_e (nm_e (nm_e (bv_seek0 (br_t (by decide) ⟨1, br_t (by decide) ⟨pk_in 0 24 (by omega), nm_e (nm_r (e' := 1) (by decide) ⟨pk_in 0 24 (by omega), nm_e ⟨pk_in 0 24 (by omega), nm_e ⟨pk_in 0 24 (by omega), ?_⟩⟩⟩)⟩⟩))))⟩⟩⟩⟩
  exact hp
theorem bv_add1 {post : Int32 → St2 → Prop} {c mk : Int32} {v : Nat} (hv : v < 23) (hu : ∀ j, j < v → ¬ a3 j = 0) (h0 : a3 v = 0) (hk : a1 0 = k)
    (hp : post ma (ty, bu, 1, ma + 1, th + 1, a1, upd a2 0 (nI v), upd a3 v 1, upd a4 v ma, upd a5 v c, upd a6 v (vp_nar .boolean mk), upd a7 v (a2 0), a8, a9, a10)) :
    wpX_addVersion post (ty, bu, 1, ma, th, a1, a2, a3, a4, a5, a6, a7, a8, a9, a10) k c mk := by
  unfold wpX_addVersion
  refine bv_free hv hu h0 ?_
  refine ⟨pk_in v 24 (by omega), nm_e ⟨pk_in v 24 (by omega), nm_e ⟨pk_in v 24 (by omega), nm_e ⟨pk_in v 24 (by omega), nm_e (nm_e (nm_e (bv_seek1 ?_ (br_f (by decide) ⟨pk_in 0 24 (by omega), br_t hk ⟨pk_in 0 24 (by omega), pk_in v 24 (by omega), nm_e ⟨pk_in 0 24 (by omega), nm_e ⟨pk_in v 24 (by omega), ?_⟩⟩⟩⟩))))⟩⟩⟩⟩
  · rw [hk]
    exact Int32.le_refl k
  · rw [nI_clamp (show v < 2 ^ 31 by omega), pk_us]
    exact hp
end
end
section
/-! ===== BucketVersions: the public methods that change the object ===== -/
section
variable {ty bu ke ma th k : Int32} {a1 a2 a3 a4 a5 a6 a7 a8 a9 a10 : Nat → Int32}
theorem bv_type0 {post : Int32 → St2 → Prop} {l : Int32} (h0 : ¬ l < 0) (h5 : l ≤ 5) (hp : post 1 (1, bu + (l + 1) * 343, ke, ma, th, a1, a2, a3, a4, a5, a6, a7, a8, a9, a10)) :
    wpX_type post (0, bu, ke, ma, th, a1, a2, a3, a4, a5, a6, a7, a8, a9, a10) l :=
  br_f h0 (br_t h5 (br_t (by decide) (br_f (by decide) (br_f (by decide) (br_t (by decide) (nm_e (nm_r (e' := 1) (by decide) hp)))))))
theorem bv_remove0 {post : Int32 → St2 → Prop} (hp : post (-3) (1, bu, 0, ma, th, a1, a2, a3, a4, a5, a6, a7, a8, a9, a10)) :
    wpX_remove post (1, bu, 0, ma, th, a1, a2, a3, a4, a5, a6, a7, a8, a9, a10) := by
  unfold wpX_remove
  exact bv_place0 (br_f (by decide) (bv_presN (br_t rfl hp)))
theorem bv_remove1 {post : Int32 → St2 → Prop} {v w : Nat} (ht : th < 24) (hw : a2 0 = nI w) (hl : w < 24) (h6 : a6 w = 0) (hv : v < 23) (hu : ∀ j, j < v → ¬ a3 j = 0) (h0 : a3 v = 0) (hk : a1 0 = bu)
    (hp : post ma (1, bu, 1, ma + 1, th + 1, a1, upd a2 0 (nI v), upd a3 v 1, upd a4 v ma, upd a5 v 0, upd a6 v 1, upd a7 v (a2 0), a8, a9, a10)) :
    wpX_remove post (1, bu, 1, ma, th, a1, a2, a3, a4, a5, a6, a7, a8, a9, a10) := by
  unfold wpX_remove
  exact bv_place1 hk (br_f (by decide) (bv_pres1 hw hl h6 (br_f (by decide) (br_t ht (bv_add1 hv hu h0 hk hp)))))
theorem bv_put0 {post : Int32 → St2 → Prop} {c : Int32} (ht : th < 24) (h3 : a3 0 = 0)
    (hp : post ma (1, bu, 1, ma + 1, th + 1, upd a1 0 bu, upd a2 0 0, upd a3 0 1, upd a4 0 ma, upd a5 0 c, upd a6 0 0, upd a7 0 (-1), a8, a9, a10)) :
    wpX_put post (1, bu, 0, ma, th, a1, a2, a3, a4, a5, a6, a7, a8, a9, a10) c :=
  br_f (by decide) (br_t ht (bv_add0 h3 hp))
theorem bv_put1 {post : Int32 → St2 → Prop} {c : Int32} {v : Nat} (ht : th < 24) (hv : v < 23) (hu : ∀ j, j < v → ¬ a3 j = 0) (h0 : a3 v = 0) (hk : a1 0 = bu)
    (hp : post ma (1, bu, 1, ma + 1, th + 1, a1, upd a2 0 (nI v), upd a3 v 1, upd a4 v ma, upd a5 v c, upd a6 v 0, upd a7 v (a2 0), a8, a9, a10)) :
    wpX_put post (1, bu, 1, ma, th, a1, a2, a3, a4, a5, a6, a7, a8, a9, a10) c :=
  br_f (by decide) (br_t ht (bv_add1 hv hu h0 hk hp))
/-! a version taken out of the chain 2, 1, 0 -/
theorem bv_unchain2 {post : Int32 → St2 → Prop} (h2 : a2 0 = 2) (h7 : 0 ≤ a7 2)
    (hp : post 1 (ty, bu, ke, ma, th - 1, a1, upd a2 0 (a7 2), upd a3 2 0, a4, a5, a6, a7, a8, a9, a10)) :
    wpX_unchain post (ty, bu, ke, ma, th, a1, a2, a3, a4, a5, a6, a7, a8, a9, a10) 0 2 :=
  ⟨pk_in 0 24 (by omega), nm_r (e' := 2) h2 ⟨1, br_f (by decide) (br_f (by decide) (br_t rfl (br_t rfl (br_t (by decide) ⟨pk_in 2 24 (by omega), pk_in 0 24 (by omega), nm_e ⟨pk_in 2 24 (by omega), nm_e (nm_e ⟨pk_in 0 24 (by omega), br_t h7 hp⟩)⟩⟩))))⟩⟩
theorem bv_unchain1 {post : Int32 → St2 → Prop} (h2 : a2 0 = 2) (h72 : a7 2 = 1)
    (hp : post 1 (ty, bu, ke, ma, th - 1, a1, a2, upd a3 1 0, a4, a5, a6, upd a7 2 (a7 1), a8, a9, a10)) :
    wpX_unchain post (ty, bu, ke, ma, th, a1, a2, a3, a4, a5, a6, a7, a8, a9, a10) 0 1 :=
  ⟨pk_in 0 24 (by omega), nm_r (e' := 2) h2 ⟨2, br_f (by decide) (br_f (by decide) (br_f (by decide) ⟨pk_in 2 24 (by omega), nm_r (e' := 1) h72 (nm_r (e' := 1) (by decide) (br_f (by decide) (br_f (by decide) (br_t rfl (br_t rfl (br_f (by decide) ⟨pk_in 1 24 (by omega), pk_in 2 24 (by omega), nm_e ⟨pk_in 1 24 (by omega), nm_e (nm_e ⟨pk_in 0 24 (by omega), br_t (by show 0 ≤ a2 0; rw [h2]; decide) hp⟩)⟩⟩))))))⟩))⟩⟩
theorem bv_unchain0 {post : Int32 → St2 → Prop} (h2 : a2 0 = 2) (h72 : a7 2 = 1) (h71 : a7 1 = 0)
    (hp : post 1 (ty, bu, ke, ma, th - 1, a1, a2, upd a3 0 0, a4, a5, a6, upd a7 1 (a7 0), a8, a9, a10)) :
    wpX_unchain post (ty, bu, ke, ma, th, a1, a2, a3, a4, a5, a6, a7, a8, a9, a10) 0 0 :=
  ⟨pk_in 0 24 (by omega), nm_r (e' := 2) h2 ⟨3, br_f (by decide) (br_f (by decide) (br_f (by decide) ⟨pk_in 2 24 (by omega), nm_r (e' := 1) h72 (nm_r (e' := 1) (by decide) (br_f (by decide) (br_f (by decide) (br_f (by decide) ⟨pk_in 1 24 (by omega), nm_r (e' := 0) h71 (nm_r (e' := 2) (by decide) (br_f (by decide) (br_f (by decide) (br_t rfl (br_t rfl (br_f (by decide) ⟨pk_in 0 24 (by omega), pk_in 1 24 (by omega), nm_e ⟨pk_in 0 24 (by omega), nm_e (nm_e ⟨pk_in 0 24 (by omega), br_t (by show 0 ≤ a2 0; rw [h2]; decide) hp⟩)⟩⟩))))))⟩))))⟩))⟩⟩
theorem bv_destroyN {post : Int32 → St2 → Prop} (hn : ∀ j, j < 24 → a3 j = 0 ∨ ¬ a4 j = k) (hp : post (-4) (ty, bu, ke, ma, th, a1, a2, a3, a4, a5, a6, a7, a8, a9, a10)) :
    wpX_destroy post (ty, bu, ke, ma, th, a1, a2, a3, a4, a5, a6, a7, a8, a9, a10) k := by
  unfold wpX_destroy
  exact bv_slotN hn (br_f (by decide) hp)
theorem bv_destroy2 {post : Int32 → St2 → Prop} (hn : ∀ j, j < 2 → a3 j = 0 ∨ ¬ a4 j = 2) (h3 : ¬ a3 2 = 0) (h4 : a4 2 = 2) (h2 : a2 0 = 2) (h7 : 0 ≤ a7 2)
    (hp : post (th - 1) (ty, bu, 1, ma, th - 1, a1, upd a2 0 (a7 2), upd a3 2 0, a4, a5, a6, a7, a8, a9, a10)) :
    wpX_destroy post (ty, bu, 1, ma, th, a1, a2, a3, a4, a5, a6, a7, a8, a9, a10) 2 := by
  unfold wpX_destroy
  exact bv_slot (v := 2) (by omega) hn h3 h4 (br_t (by decide) ⟨2, br_f (by decide) (br_t rfl (bv_unchain2 h2 h7 (nm_r (e' := 1) (by decide) (br_t (by decide) hp))))⟩)
theorem bv_destroy1 {post : Int32 → St2 → Prop} (hn : ∀ j, j < 1 → a3 j = 0 ∨ ¬ a4 j = 1) (h3 : ¬ a3 1 = 0) (h4 : a4 1 = 1) (h2 : a2 0 = 2) (h72 : a7 2 = 1)
    (hp : post (th - 1) (ty, bu, 1, ma, th - 1, a1, a2, upd a3 1 0, a4, a5, a6, upd a7 2 (a7 1), a8, a9, a10)) :
    wpX_destroy post (ty, bu, 1, ma, th, a1, a2, a3, a4, a5, a6, a7, a8, a9, a10) 1 := by
  unfold wpX_destroy
  exact bv_slot (v := 1) (by omega) hn h3 h4 (br_t (by decide) ⟨2, br_f (by decide) (br_t rfl (bv_unchain1 h2 h72 (nm_r (e' := 1) (by decide) (br_t (by decide) hp))))⟩)
theorem bv_destroy0 {post : Int32 → St2 → Prop} (h3 : ¬ a3 0 = 0) (h4 : a4 0 = 0) (h2 : a2 0 = 2) (h72 : a7 2 = 1) (h71 : a7 1 = 0)
    (hp : post (th - 1) (ty, bu, 1, ma, th - 1, a1, a2, upd a3 0 0, a4, a5, a6, upd a7 1 (a7 0), a8, a9, a10)) :
    wpX_destroy post (ty, bu, 1, ma, th, a1, a2, a3, a4, a5, a6, a7, a8, a9, a10) 0 := by
  unfold wpX_destroy
  exact bv_slot (v := 0) (by omega) (fun j z => absurd z (by omega)) h3 h4 (br_t (by decide) ⟨2, br_f (by decide) (br_t rfl (bv_unchain0 h2 h72 h71 (nm_r (e' := 1) (by decide) (br_t (by decide) hp))))⟩)
end
end
section
/-! ===== BucketVersions: the questions, at one key (at place 0, its newest version w) ===== -/
section
variable {ty bu ke ma th k : Int32} {a1 a2 a3 a4 a5 a6 a7 a8 a9 a10 : Nat → Int32}
theorem bv_getY {post : Int32 → Prop} {w : Nat} (hk : a1 0 = bu) (hw : a2 0 = nI w) (hl : w < 24) (h6 : a6 w = 0) (hp : post (a5 w)) :
    wpX_get post (ty, bu, 1, ma, th, a1, a2, a3, a4, a5, a6, a7, a8, a9, a10) := by
  unfold wpX_get
  refine bv_place1 hk (bv_pres1 hw hl h6 (br_f (by decide) ⟨pk_in 0 24 (by omega), ?_, ?_⟩))
  · show vp_in (a2 0) 24
    rw [hw]
    exact vp_in_nI hl (by omega)
  · show post (a5 (a2 0).toNatClampNeg)
    rw [hw, nI_clamp (by omega)]
    exact hp
theorem bv_getN {post : Int32 → Prop} {w : Nat} (hk : a1 0 = bu) (hw : a2 0 = nI w) (hl : w < 24) (h6 : ¬ a6 w = 0) (hp : post 0) :
    wpX_get post (ty, bu, 1, ma, th, a1, a2, a3, a4, a5, a6, a7, a8, a9, a10) := by
  unfold wpX_get
  exact bv_place1 hk (bv_pres0 hw hl h6 (br_t rfl hp))
theorem bv_presentY {post : Int32 → Prop} {w : Nat} (hk : a1 0 = bu) (hw : a2 0 = nI w) (hl : w < 24) (h6 : a6 w = 0) (hp : post 1) :
    wpX_present post (ty, bu, 1, ma, th, a1, a2, a3, a4, a5, a6, a7, a8, a9, a10) := by
  unfold wpX_present
  exact bv_place1 hk (bv_pres1 hw hl h6 ⟨rfl, hp⟩)
theorem bv_presentN {post : Int32 → Prop} {w : Nat} (hk : a1 0 = bu) (hw : a2 0 = nI w) (hl : w < 24) (h6 : ¬ a6 w = 0) (hp : post 0) :
    wpX_present post (ty, bu, 1, ma, th, a1, a2, a3, a4, a5, a6, a7, a8, a9, a10) := by
  unfold wpX_present
  exact bv_place1 hk (bv_pres0 hw hl h6 ⟨rfl, hp⟩)
theorem bv_contentY {post : Int32 → Prop} {v : Nat} (hv : v < 24) (hn : ∀ j, j < v → a3 j = 0 ∨ ¬ a4 j = k) (h3 : ¬ a3 v = 0) (h4 : a4 v = k) (h6 : a6 v = 0) (hp : post (a5 v)) :
    wpX_content post (ty, bu, ke, ma, th, a1, a2, a3, a4, a5, a6, a7, a8, a9, a10) k := by
  unfold wpX_content
  refine bv_slot hv hn h3 h4 (br_f (nI_pos (by omega)) ⟨pk_in v 24 (by omega), br_t ?_ ⟨pk_in v 24 (by omega), ?_⟩⟩)
  · rw [nI_clamp (by omega)]
    exact h6
  · rw [nI_clamp (by omega)]
    exact hp
theorem bv_contentN {post : Int32 → Prop} (hn : ∀ j, j < 24 → a3 j = 0 ∨ ¬ a4 j = k) (hp : post 0) :
    wpX_content post (ty, bu, ke, ma, th, a1, a2, a3, a4, a5, a6, a7, a8, a9, a10) k := by
  unfold wpX_content
  exact bv_slotN hn (br_t (by decide) hp)
/-! listing -/
theorem bv_end {post : Int32 → Prop} (hp : post (bu + 343)) : wpX_endOfBuffer post (1, bu, ke, ma, th, a1, a2, a3, a4, a5, a6, a7, a8, a9, a10) :=
  br_f (by decide) (br_f (by decide) (br_f (by decide) (br_t (by decide) hp)))
theorem bv_next1 {post : Int32 → Prop} (hp : post (-1)) : wpX_nextListed post (1, bu, 1, ma, th, a1, a2, a3, a4, a5, a6, a7, a8, a9, a10) 1 := by
  unfold wpX_nextListed
  exact bv_end ⟨1, br_t (by decide) hp⟩
theorem bv_nextY {post : Int32 → Prop} {w : Nat} (he : ¬ bu + 343 ≤ a1 0) (hw : a2 0 = nI w) (hl : w < 24) (h6 : a6 w = 0) (hp : post 0) :
    wpX_nextListed post (1, bu, 1, ma, th, a1, a2, a3, a4, a5, a6, a7, a8, a9, a10) 0 := by
  unfold wpX_nextListed
  refine bv_end ⟨1, br_f (by decide) ⟨pk_in 0 24 (by omega), br_f he ⟨pk_in 0 24 (by omega), ?_, br_t ?_ hp⟩⟩⟩
  · show vp_in (a2 0) 24
    rw [hw]
    exact vp_in_nI hl (by omega)
  · show a6 (a2 0).toNatClampNeg = 0
    rw [hw, nI_clamp (by omega)]
    exact h6
theorem bv_nextN {post : Int32 → Prop} {w : Nat} (he : ¬ bu + 343 ≤ a1 0) (hw : a2 0 = nI w) (hl : w < 24) (h6 : ¬ a6 w = 0) (hp : post (-1)) :
    wpX_nextListed post (1, bu, 1, ma, th, a1, a2, a3, a4, a5, a6, a7, a8, a9, a10) 0 := by
  unfold wpX_nextListed
  refine bv_end ⟨2, br_f (by decide) ⟨pk_in 0 24 (by omega), br_f he ⟨pk_in 0 24 (by omega), ?_, br_f ?_ (nm_r (e' := 1) (by decide) (br_t (by decide) hp))⟩⟩⟩
  · show vp_in (a2 0) 24
    rw [hw]
    exact vp_in_nI hl (by omega)
  · show ¬ a6 (a2 0).toNatClampNeg = 0
    rw [hw, nI_clamp (by omega)]
    exact h6
/-- a digit of a key: the place's unit, then the remainder by 7 -/
theorem bv_digit0 {post : Int32 → Prop} {u : St0} (hp : post (k / 343 - k / 343 / 7 * 7)) : wpX_digitAt post u k 0 := by
  unfold wpX_digitAt
  exact br_f (by decide) (br_f (by decide) (br_t (by decide) ⟨by decide, by decide, hp⟩))
theorem bv_digit1 {post : Int32 → Prop} {u : St0} (hp : post (k / 49 - k / 49 / 7 * 7)) : wpX_digitAt post u k 1 := by
  unfold wpX_digitAt
  exact br_f (by decide) (br_f (by decide) (br_f (by decide) (br_t (by decide) ⟨by decide, by decide, hp⟩)))
theorem bv_digit2 {post : Int32 → Prop} {u : St0} (hp : post (k / 7 - k / 7 / 7 * 7)) : wpX_digitAt post u k 2 := by
  unfold wpX_digitAt
  exact br_f (by decide) (br_f (by decide) (br_f (by decide) (br_f (by decide) (br_t (by decide) ⟨by decide, by decide, hp⟩))))
theorem bv_digit3 {post : Int32 → Prop} {u : St0} (hp : post (k / 1 - k / 1 / 7 * 7)) : wpX_digitAt post u k 3 := by
  unfold wpX_digitAt
  exact br_f (by decide) (br_t (by decide) ⟨by decide, by decide, hp⟩)
theorem bv_folder {post : Int32 → Prop} (d1 : k / 49 - k / 49 / 7 * 7 = 0) (d2 : k / 7 - k / 7 / 7 * 7 = 0) (d3 : k / 1 - k / 1 / 7 * 7 = 0) (hp : post (-1)) :
    wpX_folderPlace post (1, bu, ke, ma, th, a1, a2, a3, a4, a5, a6, a7, a8, a9, a10) k :=
  ⟨4, br_f (by decide) (bv_digit1 (br_f (by rw [d1]; decide) (nm_r (e' := 2) (by decide) (br_f (by decide) (bv_digit2 (br_f (by rw [d2]; decide) (nm_r (e' := 3) (by decide) (br_f (by decide) (bv_digit3 (br_f (by rw [d3]; decide) (nm_r (e' := 4) (by decide) (br_t (by decide) hp))))))))))))⟩
/-- list(true): one entry where the newest version is no marker, none where it is one -/
theorem bv_listY {post : Int32 → Prop} {w : Nat} (hk : a1 0 = bu) (he : ¬ bu + 343 ≤ bu) (hw : a2 0 = nI w) (hl : w < 24) (h6 : a6 w = 0)
    (d1 : bu / 49 - bu / 49 / 7 * 7 = 0) (d2 : bu / 7 - bu / 7 / 7 * 7 = 0) (d3 : bu / 1 - bu / 1 / 7 * 7 = 0) (hp : post 1) :
    wpX_list post (1, bu, 1, ma, th, a1, a2, a3, a4, a5, a6, a7, a8, a9, a10) 1 := by
  unfold wpX_list wpX_findEntry
  refine bv_seek1 (by rw [hk]; exact Int32.le_refl bu) (bv_nextY (by rw [hk]; exact he) hw hl h6 ⟨2, br_f (by decide) (br_f (by decide) (br_f (by decide) ⟨pk_in 0 24 (by omega), bv_folder (by show a1 0 / 49 - a1 0 / 49 / 7 * 7 = 0; rw [hk]; exact d1) (by show a1 0 / 7 - a1 0 / 7 / 7 * 7 = 0; rw [hk]; exact d2) (by show a1 0 / 1 - a1 0 / 1 / 7 * 7 = 0; rw [hk]; exact d3) ?_⟩))⟩)
  refine br_f (by decide) ⟨pk_in 0 24 (by omega), br_f (by decide) (nm_r (e' := 1) (by decide) (nm_r (e' := 1) (by decide) (br_t (by decide) ?_)))⟩
  unfold wX_findEntry_134
  exact bv_next1 (nm_r (e' := 1) (by decide) (br_f (by decide) (br_t (by decide) hp)))
theorem bv_listN {post : Int32 → Prop} {w : Nat} (hk : a1 0 = bu) (he : ¬ bu + 343 ≤ bu) (hw : a2 0 = nI w) (hl : w < 24) (h6 : ¬ a6 w = 0) (hp : post 0) :
    wpX_list post (1, bu, 1, ma, th, a1, a2, a3, a4, a5, a6, a7, a8, a9, a10) 1 := by
  unfold wpX_list wpX_findEntry
  exact bv_seek1 (by rw [hk]; exact Int32.le_refl bu) (bv_nextN (by rw [hk]; exact he) hw hl h6 ⟨1, br_f (by decide) (br_t (by decide) hp)⟩)
/-- entry(0, false): the key's digits, the first letter lowest -/
theorem bv_entryY {post : Int32 → Prop} {w : Nat} (hk : a1 0 = bu) (he : ¬ bu + 343 ≤ bu) (h0 : 0 ≤ bu) (hw : a2 0 = nI w) (hl : w < 24) (h6 : a6 w = 0)
    (d1 : bu / 49 - bu / 49 / 7 * 7 = 0) (d2 : bu / 7 - bu / 7 / 7 * 7 = 0) (d3 : bu / 1 - bu / 1 / 7 * 7 = 0) (hp : post (0 * 7 + (bu / 343 - bu / 343 / 7 * 7))) :
    wpX_entry post (1, bu, 1, ma, th, a1, a2, a3, a4, a5, a6, a7, a8, a9, a10) 0 0 := by
  refine br_t (by decide) ?_
  unfold wpX_findEntry
  refine bv_seek1 (by rw [hk]; exact Int32.le_refl bu) (bv_nextY (by rw [hk]; exact he) hw hl h6 ⟨1, br_f (by decide) (br_f (by decide) (br_t (by decide) (br_f (by decide) ⟨pk_in 0 24 (by omega), br_t rfl ?_⟩)))⟩)
  have e0 : a1 (0 : Int32).toNatClampNeg = bu := hk
  rw [e0]
  refine br_t h0 ⟨5, br_f (by decide) (bv_digit3 (nm_r (e' := 0) (by rw [d3]; decide) (nm_r (e' := 2) (by decide) (br_f (by decide) (bv_digit2 (nm_r (e' := 0) (by rw [d2]; decide) (nm_r (e' := 1) (by decide) (br_f (by decide) (bv_digit1 (nm_r (e' := 0) (by rw [d1]; decide) (nm_r (e' := 0) (by decide) (br_f (by decide) (bv_digit0 (nm_e (nm_r (e' := -1) (by decide) (br_t (by decide) hp))))))))))))))))⟩
theorem bv_entryN {post : Int32 → Prop} {w : Nat} (hk : a1 0 = bu) (he : ¬ bu + 343 ≤ bu) (hw : a2 0 = nI w) (hl : w < 24) (h6 : ¬ a6 w = 0) (hp : post (-7)) :
    wpX_entry post (1, bu, 1, ma, th, a1, a2, a3, a4, a5, a6, a7, a8, a9, a10) 0 0 := by
  refine br_t (by decide) ?_
  unfold wpX_findEntry
  exact bv_seek1 (by rw [hk]; exact Int32.le_refl bu) (bv_nextN (by rw [hk]; exact he) hw hl h6 ⟨1, br_f (by decide) (br_t (by decide) (br_f (by decide) hp))⟩)
end
end
section
/-! ===== the law ===== -/
section
variable {bu ma th : Int32} {a1 a2 a3 a4 a5 a6 a7 a8 a9 a10 : Nat → Int32}
/-- behind destroy, the newest version (slot 1) shows -/
theorem bv_tailY {post : Int32 → St0 → Prop} {mc ms kc ks : Nat} {y l : Int32} (hp : post 1 ())
    (he : ¬ bu + 343 ≤ bu) (h0 : 0 ≤ bu) (d1 : bu / 49 - bu / 49 / 7 * 7 = 0) (d2 : bu / 7 - bu / 7 / 7 * 7 = 0) (d3 : bu / 1 - bu / 1 / 7 * 7 = 0) (d0 : 0 * 7 + (bu / 343 - bu / 343 / 7 * 7) = l + 1)
    (hk : a1 0 = bu) (hw : a2 0 = nI 1) (h6 : a6 1 = 0) (h5 : a5 1 = y) (hn : ∀ j, j < 1 → a3 j = 0 ∨ ¬ a4 j = 1) (h3 : ¬ a3 1 = 0) (h4 : a4 1 = 1) :
    wL_lawOf_102 post mc ms y 2 l 1 kc ks 1 bu 1 ma th a1 a2 a3 a4 a5 a6 a7 a8 a9 a10 := by
  unfold wL_lawOf_102
  refine bv_getY hk hw (by omega) h6 (br_f (by decide) (br_t h5 (bv_presentY hk hw (by omega) h6 (br_t rfl (bv_listY hk he hw (by omega) h6 d1 d2 d3 (br_f (by decide) (br_t rfl ?_)))))))
  refine bv_entryY hk he h0 hw (by omega) h6 d1 d2 d3 (br_f (by decide) (br_t d0 ?_))
  exact bv_contentY (v := 1) (by omega) hn h3 h4 h6 (br_f (by decide) (br_t h5 hp))
/-- behind destroy, the newest version (slot 2) is the marker: nothing shows -/
theorem bv_tailN {post : Int32 → St0 → Prop} {mc ms kc ks : Nat} {y x3 l : Int32}
    (he : ¬ bu + 343 ≤ bu) (hk : a1 0 = bu) (hw : a2 0 = nI 2) (h6 : ¬ a6 2 = 0)
    (hc : wpX_content (fun r => ((x3 = 1 → wL_lawOf_191 post mc ms 0 r kc ks) ∧ (¬ x3 = 1 → wL_lawOf_191 post mc ms y r kc ks))) (1, bu, 1, ma, th, a1, a2, a3, a4, a5, a6, a7, a8, a9, a10) 1) :
    wL_lawOf_102 post mc ms y x3 l 0 kc ks 1 bu 1 ma th a1 a2 a3 a4 a5 a6 a7 a8 a9 a10 := by
  unfold wL_lawOf_102
  refine bv_getN hk hw (by omega) h6 (br_t rfl (br_t rfl (bv_presentN hk hw (by omega) h6 (br_t rfl (bv_listN hk he hw (by omega) h6 (br_t rfl (br_t rfl ?_)))))))
  exact bv_entryN hk he hw (by omega) h6 (br_t rfl (br_t rfl hc))
end
/-- the letter: one of six -/
theorem bv_letter (x : Int32) : ∃ j : Nat, j < 6 ∧ (x &&& 2147483647) - (x &&& 2147483647) / 6 * 6 = nI j := by
  obtain ⟨n, hn, e⟩ := pk_andE x (m := 2147483647) 31 (by decide)
  rw [e]
  exact ⟨n % 6, Nat.mod_lt _ (by omega), pk_rem (d := 6) hn (by omega) (by omega)⟩
/-- the six keys of one letter -/
theorem bv_keys : ∀ j, j < 6 → (¬ nI j < 0 ∧ nI j ≤ 5 ∧ ¬ (0 + (nI j + 1) * 343) + 343 ≤ 0 + (nI j + 1) * 343 ∧ 0 ≤ 0 + (nI j + 1) * 343
    ∧ (0 + (nI j + 1) * 343) / 49 - (0 + (nI j + 1) * 343) / 49 / 7 * 7 = 0 ∧ (0 + (nI j + 1) * 343) / 7 - (0 + (nI j + 1) * 343) / 7 / 7 * 7 = 0
    ∧ (0 + (nI j + 1) * 343) / 1 - (0 + (nI j + 1) * 343) / 1 / 7 * 7 = 0 ∧ 0 * 7 + ((0 + (nI j + 1) * 343) / 343 - (0 + (nI j + 1) * 343) / 343 / 7 * 7) = nI j + 1) := by
  decide +kernel
/-- a version number other than 0, 1, 2 that isn't negative is 3 at least -/
theorem bv_big {x : Int32} (h : ¬ x < 0) (h0 : ¬ x = 0) (h1 : ¬ x = 1) (h2 : ¬ x = 2) : 3 ≤ x := by
  obtain ⟨j, hj, rfl⟩ := nI_of h
  have e : 3 ≤ j := by
    rcases Nat.lt_or_ge j 3 with z | z
    · rcases (show j = 0 ∨ j = 1 ∨ j = 2 by omega) with e | e | e
      · exact absurd (e ▸ rfl) h0
      · exact absurd (e ▸ rfl) h1
      · exact absurd (e ▸ rfl) h2
    · exact z
  exact nI_le (a := 3) e hj
theorem bv_law {post : Int32 → St0 → Prop} (hp : post 1 ()) (p0 p1 p2 p3 : Int32) : wpL_lawOf post 112 1776 () p0 p1 p2 p3 := by
  obtain ⟨j, hj, ej⟩ := bv_letter p0
  obtain ⟨t0, t5, te, tn, t1, t2, t3, td⟩ := bv_keys j hj
  refine ⟨by omega, by omega, 10, 198, by omega, by omega, ?_⟩
  refine ⟨by omega, by omega, by omega, by omega, by omega, by omega, by omega, by omega, by omega, by omega, by omega, by omega, by omega, by omega, by omega, by omega, by omega, by omega, by omega, by omega, ?_⟩
  refine ⟨by decide, nm_r ej (bv_type0 t0 t5 ?_)⟩
  generalize 0 + (nI j + 1) * 343 = bu at te tn t1 t2 t3 td ⊢
  refine bv_remove0 (br_t rfl (bv_put0 (by decide) rfl (br_t rfl (bv_put1 (v := 1) (by decide) (by omega) (by decide) rfl rfl (br_t (by decide) ?_)))))
  refine bv_remove1 (v := 2) (w := 1) (by decide) rfl (by omega) rfl (by omega) (by decide) rfl rfl (br_t (by decide) ?_)
  by_cases h2 : p3 = 2
  · subst h2
    refine bv_destroy2 (by decide) (by decide) (by decide) (by decide) (by decide) (br_f (by decide) (br_f (by decide) (br_t (by decide) (br_t rfl ?_))))
    exact bv_tailY hp te tn t1 t2 t3 td rfl rfl rfl rfl (by decide) (by decide) (by decide)
  by_cases h1 : p3 = 1
  · subst h1
    refine bv_destroy1 (by decide) (by decide) (by decide) (by decide) (by decide) (br_f (by decide) (br_f (by decide) (br_t (by decide) (br_f (by decide) ?_))))
    exact bv_tailN te rfl rfl (by decide) (bv_contentN (by decide) (br_t rfl (br_t rfl hp)))
  by_cases h0 : p3 = 0
  · subst h0
    refine bv_destroy0 (by decide) (by decide) (by decide) (by decide) (by decide) (br_f (by decide) (br_f (by decide) (br_t (by decide) (br_f (by decide) ?_))))
    exact bv_tailN te rfl rfl (by decide) (bv_contentY (v := 1) (by omega) (by decide) (by decide) (by decide) (by decide) (br_f (by decide) (br_t rfl hp)))
  refine bv_destroyN (fun i hi => ?_) ?_
  · have q : ∀ i, i < 24 → upd (upd (upd (fun _ => 0) 0 1) 1 1) 2 1 i = 0 ∨ upd (upd (upd (fun _ => 0) 0 0) 1 (0 + 1)) 2 (0 + 1 + 1) i = 0 ∨ upd (upd (upd (fun _ => 0) 0 0) 1 (0 + 1)) 2 (0 + 1 + 1) i = 1 ∨ upd (upd (upd (fun _ => 0) 0 0) 1 (0 + 1)) 2 (0 + 1 + 1) i = 2 := by decide
    rcases q i hi with g | g | g | g
    · exact Or.inl g
    · exact Or.inr (fun z => h0 (z.symm.trans g))
    · exact Or.inr (fun z => h1 (z.symm.trans g))
    · exact Or.inr (fun z => h2 (z.symm.trans g))
  · refine br_c (fun _ => br_t rfl (br_f h2 ?_)) (fun g => br_t (bv_big g h0 h1 h2) (br_t rfl (br_f h2 ?_)))
    · exact bv_tailN te rfl rfl (by decide) (bv_contentY (v := 1) (by omega) (by decide) (by decide) (by decide) (by decide) (br_f h1 (br_t rfl hp)))
    · exact bv_tailN te rfl rfl (by decide) (bv_contentY (v := 1) (by omega) (by decide) (by decide) (by decide) (by decide) (br_f h1 (br_t rfl hp)))
theorem bv_cell {post : Int32 → Prop} {L : Nat} {xs : Nat → Int32} (hL : L ≤ 4) (i : Nat) (hi : i < 4) (hp : ∀ v, post v) : wpL_cellAt post L xs () (nI i) :=
  pk_le L i (fun _ => hp 0) (fun z => ⟨pk_in i L z, hp _⟩)
theorem i_vc (xs : Nat → Int32) (L : Nat) (hL : L ≤ 4) : wpL_law (fun r => r = 1) L xs :=
  bv_cell hL 0 (by omega) (fun r1 => bv_cell hL 1 (by omega) (fun r2 => bv_cell hL 2 (by omega) (fun r3 => bv_cell hL 3 (by omega) (fun r4 => ⟨112, 1776, by omega, by omega, bv_law rfl r1 r2 r3 r4⟩))))
end

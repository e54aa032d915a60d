/-! THE MODEL: an order placed -/
set_option maxRecDepth 100000
section MATH
variable {B : Bt}
theorem c_J14_min (hB : Bs B) {x y : Int32} {a b : Nat} (hx : x = nI a) (hy : y = nI b) (ha : a < 2 ^ 31) (hb : b < 2 ^ 31) : Tr B yJ14_min (Cond.code yJ14_min cJ14_min 2 (some .int)) (rmd 1 0 0) [.int x, .int y] [] (fun r w => r = some (.int (nI (min a b))) ∧ w = []) nox := by
  subst hx hy
  refine tr_of hB (by decide +kernel) rfl ?_
  intro Γ X Y
  refine g_eq (ls' := [.val (.int (nI a)), .val (.int (nI b))]) rfl rfl ?_
  refine g_iload_n X dJ14_min_0 rfl rfl ?_
  refine g_iload_n X dJ14_min_1 rfl rfl ?_
  refine g_icmp_gt (tgt := 9) X dJ14_min_2 (by decide) (fun c_2 => ?_) (fun c_2 => ?_)
  · have h := (nI_ltI hb ha).mp c_2
    refine g_iload_n X dJ14_min_9 rfl rfl ?_
    exact g_iret X Y dJ14_min_10 (rfl) (⟨by rw [Nat.min_eq_right (Nat.le_of_lt h)], rfl⟩) (Pks.tail (rest := _) (by repeat (first | with_reducible exact Pks.nil | (with_reducible refine Pks.pure (by assumption) ?_) | (with_reducible apply Pks.cons; focus ((repeat (first | with_reducible exact Pk.here | with_reducible apply Pk.there)); done)))))
  · have h : a ≤ b := Nat.le_of_not_lt fun q => c_2 ((nI_ltI hb ha).mpr q)
    refine g_iload_n X dJ14_min_5 rfl rfl ?_
    refine g_goto (tgt := 10) X dJ14_min_6 (by decide) ?_
    exact g_iret X Y dJ14_min_10 (rfl) (⟨by rw [Nat.min_eq_left h], rfl⟩) (Pks.tail (rest := _) (by repeat (first | with_reducible exact Pks.nil | (with_reducible refine Pks.pure (by assumption) ?_) | (with_reducible apply Pks.cons; focus ((repeat (first | with_reducible exact Pk.here | with_reducible apply Pk.there)); done)))))
theorem c_J14_max (hB : Bs B) {x y : Int32} {a b : Nat} (hx : x = nI a) (hy : y = nI b) (ha : a < 2 ^ 31) (hb : b < 2 ^ 31) : Tr B yJ14_max (Cond.code yJ14_max cJ14_max 2 (some .int)) (rmd 1 0 0) [.int x, .int y] [] (fun r w => r = some (.int (nI (max a b))) ∧ w = []) nox := by
  subst hx hy
  refine tr_of hB (by decide +kernel) rfl ?_
  intro Γ X Y
  refine g_eq (ls' := [.val (.int (nI a)), .val (.int (nI b))]) rfl rfl ?_
  refine g_iload_n X dJ14_max_0 rfl rfl ?_
  refine g_iload_n X dJ14_max_1 rfl rfl ?_
  refine g_icmp_lt (tgt := 9) X dJ14_max_2 (by decide) (fun c_2 => ?_) (fun c_2 => ?_)
  · have h := (nI_ltI ha hb).mp c_2
    refine g_iload_n X dJ14_max_9 rfl rfl ?_
    exact g_iret X Y dJ14_max_10 (rfl) (⟨by rw [Nat.max_eq_right (Nat.le_of_lt h)], rfl⟩) (Pks.tail (rest := _) (by repeat (first | with_reducible exact Pks.nil | (with_reducible refine Pks.pure (by assumption) ?_) | (with_reducible apply Pks.cons; focus ((repeat (first | with_reducible exact Pk.here | with_reducible apply Pk.there)); done)))))
  · have h : b ≤ a := Nat.le_of_not_lt fun q => c_2 ((nI_ltI ha hb).mpr q)
    refine g_iload_n X dJ14_max_5 rfl rfl ?_
    refine g_goto (tgt := 10) X dJ14_max_6 (by decide) ?_
    exact g_iret X Y dJ14_max_10 (rfl) (⟨by rw [Nat.max_eq_left h], rfl⟩) (Pks.tail (rest := _) (by repeat (first | with_reducible exact Pks.nil | (with_reducible refine Pks.pure (by assumption) ?_) | (with_reducible apply Pks.cons; focus ((repeat (first | with_reducible exact Pk.here | with_reducible apply Pk.there)); done)))))
theorem c_J14_abs (hB : Bs B) {x : Int32} : Tr B yJ14_abs (Cond.code yJ14_abs cJ14_abs 1 (some .int)) (rmd 1 0 0) [.int x] [] (fun r w => r = some (.int (if 0 ≤ x then x else -x)) ∧ w = []) nox := by
  refine tr_of hB (by decide +kernel) rfl ?_
  intro Γ X Y
  refine g_eq (ls' := [.val (.int x)]) rfl rfl ?_
  refine g_iload_n X dJ14_abs_0 rfl rfl ?_
  refine g_if_ge (tgt := 9) X dJ14_abs_1 (by decide) (fun c_1 => ?_) (fun c_1 => ?_)
  · refine g_iload_n X dJ14_abs_9 rfl rfl ?_
    exact g_iret X Y dJ14_abs_10 (rfl) (⟨by rw [if_pos c_1], rfl⟩) (Pks.tail (rest := _) (by repeat (first | with_reducible exact Pks.nil | (with_reducible refine Pks.pure (by assumption) ?_) | (with_reducible apply Pks.cons; focus ((repeat (first | with_reducible exact Pk.here | with_reducible apply Pk.there)); done)))))
  · refine g_iload_n X dJ14_abs_4 rfl rfl ?_
    refine g_ineg X dJ14_abs_5 ?_
    refine g_goto (tgt := 10) X dJ14_abs_6 (by decide) ?_
    exact g_iret X Y dJ14_abs_10 (rfl) (⟨by rw [if_neg c_1], rfl⟩) (Pks.tail (rest := _) (by repeat (first | with_reducible exact Pks.nil | (with_reducible refine Pks.pure (by assumption) ?_) | (with_reducible apply Pks.cons; focus ((repeat (first | with_reducible exact Pk.here | with_reducible apply Pk.there)); done)))))
end MATH
theorem ers_set {α : Type} {O : List α} {k : Nat} {x : α} : (O.set k x).eraseIdx k = O.eraseIdx k := by
  refine List.ext_getElem? fun j => ?_
  rw [List.getElem?_eraseIdx, List.getElem?_eraseIdx]
  by_cases h : j < k
  · rw [if_pos h, if_pos h, List.getElem?_set_ne (by omega)]
  · rw [if_neg h, if_neg h, List.getElem?_set_ne (by omega)]
theorem trS_c {t k : Nat} {b : Bool} {o : OO} {S : SS} : wO (trS t b k o o.2.2.2.2 S) ((sO S).eraseIdx k) = trS t b k o o.2.2.2.2 S := by
  simp only [trS, if_pos]
theorem Enc.trE {M M1 : Nat → Int32} {S : SS} {k n : Nat} {o : OO} {T : List (Nat × Nat)} (h : Enc M S) (h1 : Enc M1 (wT S T)) (e : ∀ i, i = 6 ∨ i = 7 → M1 i = M i) (ho : (sO S)[k]? = some o) (hn : n ≤ o.2.2.2.2) : Enc (trE M1 M k o n) (up (up (up (sN S) 5 o.2.2.2.1) 6 (sN S 6 + n)) 7 (sN S 7 + n * o.2.2.2.1), sH S, T, (sO S).set k (o.1, o.2.1, o.2.2.1, o.2.2.2.1, o.2.2.2.2 - n), S.2.2.2.2) := by
  obtain ⟨-, k1, k2, k3, k4⟩ := h.2.2.2.1.2.2 k o ho
  have q1 := h1.n (i := 5) (v := o.2.2.2.1) (by omega) rfl
  have q2 := q1.n (i := 6) (v := sN S 6 + n) (x := M 6 + nI n) (by omega) (by rw [h.1 6 (by omega), nI_add])
  have q3 := q2.n (i := 7) (v := sN S 7 + n * o.2.2.2.1) (x := M 7 + nI (n * o.2.2.2.1)) (by omega) (by rw [h.1 7 (by omega), nI_add])
  exact q3.u (k := k) (o := o) (v := o.2.2.2.2 - n) ho (pk_sub hn) (by omega)
theorem Enc.trT {M : Nat → Int32} {S : SS} {t k n : Nat} {o : OO} (h : Enc M S) (ho : (sO S)[k]? = some o) (ht : t < 6) (hn : n ≤ o.2.2.2.2) (hc : ∀ c, (sT S)[t]? = some c → n * o.2.2.2.1 ≤ c.1) : Enc (if n = o.2.2.2.2 then clM (trT M t k o n) k else trT M t k o n) (trS t true k o n S) := by
  obtain ⟨-, k1, k2, k3, k4⟩ := h.2.2.2.1.2.2 k o ho
  have q1 := h.c (k := t) (f := (· - n * o.2.2.2.1)) (x := M (17 + 3 * t) - nI (n * o.2.2.2.1)) ht fun c e => by rw [(h.2.2.1.2.2 t c e).1, pk_sub (hc c e)]
  have q2 := q1.w (k := t) (f := (· + n)) (x := M (17 + 3 * t + 1) + nI n) ht fun c e => by
    rw [← upd_n (f := M) (k := 17 + 3 * t) (x := M (17 + 3 * t) - nI (n * o.2.2.2.1)) (show 17 + 3 * t + 1 ≠ 17 + 3 * t by omega), (q1.2.2.1.2.2 t c e).2, nI_add]
  have q3 := q2.c (k := o.2.1) (f := (· + n * o.2.2.2.1)) (x := (upd (upd M (17 + 3 * t) (M (17 + 3 * t) - nI (n * o.2.2.2.1))) (17 + 3 * t + 1) (M (17 + 3 * t + 1) + nI n)) (17 + 3 * o.2.1) + nI (n * o.2.2.2.1)) k2 fun c e => by rw [(q2.2.2.1.2.2 _ c e).1, nI_add]
  have q4 := h.trE (T := mdT (mdT (mdT (sT S) t (· - n * o.2.2.2.1) id) t id (· + n)) o.2.1 (· + n * o.2.2.2.1) id) q3 (fun i hi => by repeat rw [upd_n (by omega)]) ho hn
  rw [md_md] at q4
  by_cases hu : n = o.2.2.2.2
  · rw [if_pos hu]
    have q5 := q4.closeO (k := k) (by show k < ((sO S).set k _).length; rw [List.length_set]; exact (List.getElem?_eq_some_iff.mp ho).1)
    subst hu
    rw [ers_set] at q5
    simp only [trS, if_pos]
    exact q5
  · rw [if_neg hu]
    simp only [trS, if_neg hu]
    exact q4
theorem Enc.trF {M : Nat → Int32} {S : SS} {t k n : Nat} {o : OO} (h : Enc M S) (ho : (sO S)[k]? = some o) (ht : t < 6) (hn : n ≤ o.2.2.2.2) (hc : ∀ c, (sT S)[t]? = some c → n ≤ c.2) : Enc (if n = o.2.2.2.2 then clM (trF M t k o n) k else trF M t k o n) (trS t false k o n S) := by
  obtain ⟨-, k1, k2, k3, k4⟩ := h.2.2.2.1.2.2 k o ho
  have q1 := h.c (k := t) (f := (· + n * o.2.2.2.1)) (x := M (17 + 3 * t) + nI (n * o.2.2.2.1)) ht fun c e => by rw [(h.2.2.1.2.2 t c e).1, nI_add]
  have q2 := q1.w (k := t) (f := (· - n)) (x := M (17 + 3 * t + 1) - nI n) ht fun c e => by
    have e' : (mdT (sT S) t (· + n * o.2.2.2.1) id)[t]? = some c := e
    rcases md_get e' with ⟨-, a, ha, rfl⟩ | ⟨q, -⟩
    · rw [(h.2.2.1.2.2 t a ha).2, pk_sub (hc a ha)]; rfl
    · exact absurd rfl q
  have q3 := q2.w (k := o.2.1) (f := (· + n)) (x := (upd (upd M (17 + 3 * t) (M (17 + 3 * t) + nI (n * o.2.2.2.1))) (17 + 3 * t + 1) (M (17 + 3 * t + 1) - nI n)) (17 + 3 * o.2.1 + 1) + nI n) k2 fun c e => by rw [(q2.2.2.1.2.2 _ c e).2, nI_add]
  have q4 := h.trE (T := mdT (mdT (mdT (sT S) t (· + n * o.2.2.2.1) id) t id (· - n)) o.2.1 id (· + n)) q3 (fun i hi => by repeat rw [upd_n (by omega)]) ho hn
  rw [md_md] at q4
  by_cases hu : n = o.2.2.2.2
  · rw [if_pos hu]
    have q5 := q4.closeO (k := k) (by show k < ((sO S).set k _).length; rw [List.length_set]; exact (List.getElem?_eq_some_iff.mp ho).1)
    subst hu
    rw [ers_set] at q5
    simp only [trS, if_pos]
    exact q5
  · rw [if_neg hu]
    simp only [trS, if_neg hu]
    exact q4

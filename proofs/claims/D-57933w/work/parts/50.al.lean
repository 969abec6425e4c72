/-! lists: an ArrayList a with its array arr, of cap places, n elements es -/
def alF (n : Nat) (es : Nat → Nat) : Nat → Option Nat := fun j => if j < n then some (es j) else none
def AL (G : mm_G) (W : mm_H) (a arr cap : Nat) (mc : Int32) (n : Nat) (es : Nat → Nat) : Prop := mm_ob G W a 15 [.int mc, .ref arr, .int (nI n)] ∧ n ≤ cap ∧ cap < 2 ^ 16 ∧ a ≠ arr ∧ ((cap = 0 ∧ arr = G.2.2 0) ∨ (0 < cap ∧ mm_qa G W arr 4 cap (alF n es)))
theorem alF_lt {n i : Nat} {es : Nat → Nat} (h : i < n) : alF n es i = some (es i) := if_pos h
theorem AL.q {G : mm_G} {W : mm_H} {a arr cap n : Nat} {mc : Int32} {es : Nat → Nat} (h : AL G W a arr cap mc n es) (hn : 0 < cap) : mm_qa G W arr 4 cap (alF n es) := by
  rcases h.2.2.2.2 with ⟨z, -⟩ | ⟨-, z⟩
  · omega
  · exact z
theorem AL.z {G : mm_G} {W : mm_H} {a arr cap n : Nat} {mc : Int32} {es : Nat → Nat} (h : AL G W a arr cap mc n es) (hn : cap = 0) : arr = G.2.2 0 := by
  rcases h.2.2.2.2 with ⟨-, z⟩ | ⟨z, -⟩
  · exact z
  · omega
theorem AL.mono {G : mm_G} {W W2 : mm_H} {a arr cap n : Nat} {mc : Int32} {es : Nat → Nat} (h : AL G W a arr cap mc n es) (k : mm_le W W2) : AL G W2 a arr cap mc n es :=
  ⟨h.1.mono k, h.2.1, h.2.2.1, h.2.2.2.1, h.2.2.2.2.imp id (fun z => ⟨z.1, z.2.mono k⟩)⟩
theorem AL.kept {G : mm_G} {H H1 : Heap} {a arr cap n : Nat} {mc : Int32} {es : Nat → Nat} (h : AL G (mm_h H) a arr cap mc n es) (e1 : H1[a]? = H[a]?) (e2 : 0 < cap → H1[arr]? = H[arr]?) : AL G (mm_h H1) a arr cap mc n es :=
  ⟨h.1.kept e1, h.2.1, h.2.2.1, h.2.2.2.1, h.2.2.2.2.imp id (fun z => ⟨z.1, z.2.kept (e2 z.1)⟩)⟩
theorem AL.cg {G : mm_G} {W : mm_H} {a arr cap n : Nat} {mc : Int32} {es es2 : Nat → Nat} (h : AL G W a arr cap mc n es) (k : ∀ j, j < n → es2 j = es j) : AL G W a arr cap mc n es2 := by
  have e : alF n es2 = alF n es := by
    funext j; unfold alF; split
    · next z => rw [k j z]
    · rfl
  exact ⟨h.1, h.2.1, h.2.2.1, h.2.2.2.1, by rw [e]; exact h.2.2.2.2⟩
theorem alF_0 {es : Nat → Nat} : alF 0 es = fun _ => none := by funext j; exact if_neg (Nat.not_lt_zero _)
theorem alF_add {n v : Nat} {es : Nat → Nat} : updO (alF n es) n (some v) = alF (n + 1) (fun j => if j = n then v else es j) := by
  funext j; unfold updO alF
  by_cases h : j = n
  · rw [if_pos h, if_pos (by omega)]; exact congrArg some (if_pos h).symm
  · rw [if_neg h]
    by_cases h2 : j < n
    · rw [if_pos h2, if_pos (by omega)]; exact congrArg some (if_neg h).symm
    · rw [if_neg h2, if_neg (by omega)]
theorem cpy_0 {n0 : Nat} {f : Nat → Option Nat} : va_cpy f (fun _ => none) 0 0 n0 = fun j => if j < n0 then f j else none := by
  funext j; unfold va_cpy
  by_cases z : j < n0
  · rw [if_pos ⟨Nat.zero_le _, by omega⟩, if_pos z]; congr 1; omega
  · rw [if_neg (by omega), if_neg z]
theorem alF_i {n : Nat} {es : Nat → Nat} {m : Nat} (h : n ≤ m) : (fun j => if j < m then alF n es j else none) = alF n es := by
  funext j; unfold alF
  by_cases z : j < m
  · rw [if_pos z]
  · rw [if_neg z, if_neg (by omega)]
theorem mm_arO {G : mm_G} {P : mm_H} {s : State} (hKK : KK G P s) : s.vm.findClass "[Ljava/lang/Object;" = some (G.2.1 4) := by
  obtain ⟨kA', comp', -, -, -, e4⟩ := (hKK.K.2 4 _ rfl).2
  exact e4
theorem mm_shr1 {n : Nat} (h : n < 1000) : nI n >>> (nI 1 &&& 31) = nI (n / 2) := by
  have : ∀ n : Fin 1000, nI n.1 >>> (nI 1 &&& 31) = nI (n.1 / 2) := by decide +kernel
  exact this ⟨n, h⟩
theorem lw_UU {own : String} {idx : Nat} {C owner : String} {x y : MethodName} {ws : List Cond} (h1 : Cond.methodLink own idx x ∈ lw_all) (h2 : Cond.sameMethod x.cls owner x.name x.desc ∈ lw_all) (h3 : Cond.selects C x y ∈ lw_all) (h4 : Cond.instanceMethod y ∈ lw_all) (h5 : Cond.initialized y.cls ∈ lw_all) (h6 : GoodIn lw_all ws) : GoodIn lw_all (va_wsU own idx C owner x y ws) := by
  refine lw_app (fun w hw => ?_) h6
  simp only [List.mem_cons, List.not_mem_nil, or_false] at hw
  rcases hw with rfl | rfl | rfl | rfl | rfl
  · exact h1
  · exact h2
  · exact h3
  · exact h4
  · exact h5
theorem lw_OO {own : String} {idx : Nat} {C owner : String} {x y : MethodName} {ws : List Cond} (h1 : Cond.methodLink own idx x ∈ lw_all) (h2 : Cond.sameMethod x.cls owner x.name x.desc ∈ lw_all) (h0 : Cond.instanceMethod ⟨owner, x.name, x.desc⟩ ∈ lw_all) (h3 : Cond.selects C x y ∈ lw_all) (h4 : Cond.instanceMethod y ∈ lw_all) (h5 : Cond.initialized y.cls ∈ lw_all) (h6 : GoodIn lw_all ws) : GoodIn lw_all (va_wsO own idx C owner x y ws) := by
  refine lw_app (fun w hw => ?_) h6
  simp only [List.mem_cons, List.not_mem_nil, or_false] at hw
  rcases hw with rfl | rfl | rfl | rfl | rfl | rfl
  · exact h1
  · exact h2
  · exact h0
  · exact h3
  · exact h4
  · exact h5

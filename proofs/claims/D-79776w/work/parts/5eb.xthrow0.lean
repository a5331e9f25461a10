/-! WORDS OF THROWS (printed by tools/gen_throw.py) -/
set_option maxRecDepth 100000
def rv_wok (w : Cond) : Prop := (w ∈ lw_all ∨ (∃ C D, w = Cond.castable C D ∧ w ∈ lw_tbl) ∨ ∃ x, w = Cond.declares x ∧ w ∈ lw_tbl) ∧ vx_ot w = true
theorem rv_wok.at {X : rv_X} {y : MethodName} {cc : ByteArray} {d : Nat} (hX : rv_K X y cc d) {w : Cond} (h : rv_wok w) : w.before X.2.2.2.2.2.2.1 X.2.2.2.2.1 = true := by
  rcases h.1 with h | ⟨C, D, rfl, h⟩ | ⟨x, rfl, h⟩
  · exact rv_words hX h
  · exact rv_castW hX h
  · obtain ⟨G, p, e, R, s, m, args, below, meth, c, Qw⟩ := X
    obtain ⟨-, -, -, -, ⟨⟨a0, h0, -⟩, -⟩, hW, -⟩ := hX
    exact va_Nw.use rfl (va_Nw.warmD hW (va_Nw.of rfl (h0 _ h)))
theorem tw_thr : ∀ w ∈ Bundle.throwableAtoms, vx_no w = true → rv_wok w := by
  intro w hw
  simp only [Bundle.throwableAtoms, List.mem_append, List.mem_cons, List.not_mem_nil, or_false, or_assoc] at hw
  rcases hw with rfl | rfl | rfl | rfl | rfl | rfl | rfl | rfl | rfl | rfl | rfl | rfl | rfl | rfl | rfl | rfl | rfl | rfl | rfl | rfl | rfl | rfl | rfl | rfl
  · exact fun _ => ⟨Or.inl q129, rfl⟩
  · exact fun _ => ⟨Or.inl q217, rfl⟩
  · exact fun _ => ⟨Or.inl q226, rfl⟩
  · exact fun _ => ⟨Or.inl q233, rfl⟩
  · exact fun _ => ⟨Or.inl q236, rfl⟩
  · exact fun _ => ⟨Or.inl q238, rfl⟩
  · exact fun _ => ⟨Or.inl q218, rfl⟩
  · exact fun _ => ⟨Or.inl q219, rfl⟩
  · exact fun _ => ⟨Or.inl q171, rfl⟩
  · exact fun _ => ⟨Or.inl q172, rfl⟩
  · exact fun _ => ⟨Or.inl q220, rfl⟩
  · exact fun _ => ⟨Or.inl q225, rfl⟩
  · exact fun _ => ⟨Or.inl q234, rfl⟩
  · exact fun _ => ⟨Or.inl q474, rfl⟩
  · exact fun _ => ⟨Or.inl q207, rfl⟩
  · exact fun _ => ⟨Or.inl q475, rfl⟩
  · exact fun _ => ⟨Or.inl q209, rfl⟩
  · exact fun _ => ⟨Or.inl q476, rfl⟩
  · exact fun _ => ⟨Or.inl q211, rfl⟩
  · exact fun _ => ⟨Or.inl q221, rfl⟩
  · exact fun h => absurd h (by decide)
  · exact fun _ => ⟨Or.inl q223, rfl⟩
  · exact fun h => absurd h (by decide)
  · exact fun _ => ⟨Or.inl q213, rfl⟩
theorem tw_cIAE : ∀ w ∈ Bundle.chain0Atoms "java/lang/IllegalArgumentException" ["java/lang/RuntimeException", "java/lang/Exception"], vx_no w = true → rv_wok w := by
  intro w hw
  simp only [Bundle.chain0Atoms, Bundle.passAtoms, List.mem_append, List.mem_cons, List.not_mem_nil, or_false, or_assoc] at hw
  rcases hw with rfl | rfl | rfl | rfl | rfl | rfl | rfl | rfl | rfl | rfl | rfl | rfl | rfl | rfl | rfl
  · exact fun _ => ⟨Or.inl q1115, rfl⟩
  · exact fun _ => ⟨Or.inl q1116, rfl⟩
  · exact fun _ => ⟨Or.inl q1117, rfl⟩
  · exact fun _ => ⟨Or.inl q1118, rfl⟩
  · exact fun _ => ⟨Or.inr (Or.inr ⟨_, rfl, q198⟩), rfl⟩
  · exact fun _ => ⟨Or.inl q1118, rfl⟩
  · exact fun _ => ⟨Or.inl q1119, rfl⟩
  · exact fun _ => ⟨Or.inl q1120, rfl⟩
  · exact fun _ => ⟨Or.inl q1121, rfl⟩
  · exact fun _ => ⟨Or.inr (Or.inr ⟨_, rfl, q200⟩), rfl⟩
  · exact fun _ => ⟨Or.inl q1121, rfl⟩
  · exact fun _ => ⟨Or.inl q1122, rfl⟩
  · exact fun _ => ⟨Or.inl q1123, rfl⟩
  · exact fun _ => ⟨Or.inl q218, rfl⟩
  · exact fun _ => ⟨Or.inr (Or.inr ⟨_, rfl, q202⟩), rfl⟩
theorem tw_tIAE : ∀ w ∈ [Cond.instantiable "java/lang/IllegalArgumentException" 6, .castable "java/lang/IllegalArgumentException" "java/lang/IllegalArgumentException", .selects "java/lang/IllegalArgumentException" Bundle.tFill0 Bundle.tFill0, .selects "java/lang/IllegalArgumentException" Bundle.tFill Bundle.tFill, .lays "java/lang/IllegalArgumentException" Bundle.tN "cause" "Ljava/lang/Throwable;", .lays "java/lang/IllegalArgumentException" Bundle.tN "stackTrace" Bundle.steD, .lays "java/lang/IllegalArgumentException" Bundle.tN "suppressedExceptions" Bundle.listD, .lays "java/lang/IllegalArgumentException" Bundle.tN "detailMessage" "Ljava/lang/String;", .isRef (.static Bundle.tN "UNASSIGNED_STACK" Bundle.steD), .isRef (.static Bundle.tN "SUPPRESSED_SENTINEL" Bundle.listD), .fieldLink Bundle.tN 198 Bundle.tN "backtrace" "Ljava/lang/Object;", .lays Bundle.tN Bundle.tN "backtrace" "Ljava/lang/Object;", .lays "java/lang/IllegalArgumentException" Bundle.tN "backtrace" "Ljava/lang/Object;"], vx_no w = true → rv_wok w := by
  intro w hw
  simp only [List.mem_cons, List.not_mem_nil, or_false] at hw
  rcases hw with rfl | rfl | rfl | rfl | rfl | rfl | rfl | rfl | rfl | rfl | rfl | rfl | rfl
  · exact fun _ => ⟨Or.inl q196, rfl⟩
  · exact fun _ => ⟨Or.inr (Or.inl ⟨_, _, rfl, q197⟩), rfl⟩
  · exact fun _ => ⟨Or.inl q204, rfl⟩
  · exact fun _ => ⟨Or.inl q205, rfl⟩
  · exact fun _ => ⟨Or.inl q206, rfl⟩
  · exact fun _ => ⟨Or.inl q208, rfl⟩
  · exact fun _ => ⟨Or.inl q210, rfl⟩
  · exact fun _ => ⟨Or.inl q212, rfl⟩
  · exact fun h => absurd h (by decide)
  · exact fun h => absurd h (by decide)
  · exact fun _ => ⟨Or.inl q216, rfl⟩
  · exact fun _ => ⟨Or.inl q215, rfl⟩
  · exact fun _ => ⟨Or.inl q214, rfl⟩
theorem tw_IAE {own : String} {ic : Nat} (hm : (Cond.methodLink own ic (Bundle.init0 "java/lang/IllegalArgumentException")) ∈ lw_all) : ∀ w ∈ vx_at0 own ic "java/lang/IllegalArgumentException" ["java/lang/RuntimeException", "java/lang/Exception"], rv_wok w := by
  intro w hw
  obtain ⟨h1, h2⟩ := List.mem_filter.mp hw
  rcases List.mem_append.mp h1 with h1 | h1
  · rcases List.mem_append.mp h1 with h1 | h1
    · exact tw_thr w h1 h2
    · exact tw_cIAE w h1 h2
  · rcases List.mem_cons.mp h1 with h1 | h1
    · subst h1
      exact ⟨Or.inl hm, rfl⟩
    · exact tw_tIAE w h1 h2
theorem tw_cISE : ∀ w ∈ Bundle.chain0Atoms "java/lang/IllegalStateException" ["java/lang/RuntimeException", "java/lang/Exception"], vx_no w = true → rv_wok w := by
  intro w hw
  simp only [Bundle.chain0Atoms, Bundle.passAtoms, List.mem_append, List.mem_cons, List.not_mem_nil, or_false, or_assoc] at hw
  rcases hw with rfl | rfl | rfl | rfl | rfl | rfl | rfl | rfl | rfl | rfl | rfl | rfl | rfl | rfl | rfl
  · exact fun _ => ⟨Or.inl q1128, rfl⟩
  · exact fun _ => ⟨Or.inl q1129, rfl⟩
  · exact fun _ => ⟨Or.inl q1130, rfl⟩
  · exact fun _ => ⟨Or.inl q1118, rfl⟩
  · exact fun _ => ⟨Or.inr (Or.inr ⟨_, rfl, q198⟩), rfl⟩
  · exact fun _ => ⟨Or.inl q1118, rfl⟩
  · exact fun _ => ⟨Or.inl q1119, rfl⟩
  · exact fun _ => ⟨Or.inl q1120, rfl⟩
  · exact fun _ => ⟨Or.inl q1121, rfl⟩
  · exact fun _ => ⟨Or.inr (Or.inr ⟨_, rfl, q200⟩), rfl⟩
  · exact fun _ => ⟨Or.inl q1121, rfl⟩
  · exact fun _ => ⟨Or.inl q1122, rfl⟩
  · exact fun _ => ⟨Or.inl q1123, rfl⟩
  · exact fun _ => ⟨Or.inl q218, rfl⟩
  · exact fun _ => ⟨Or.inr (Or.inr ⟨_, rfl, q202⟩), rfl⟩
theorem tw_tISE : ∀ w ∈ [Cond.instantiable "java/lang/IllegalStateException" 6, .castable "java/lang/IllegalStateException" "java/lang/IllegalStateException", .selects "java/lang/IllegalStateException" Bundle.tFill0 Bundle.tFill0, .selects "java/lang/IllegalStateException" Bundle.tFill Bundle.tFill, .lays "java/lang/IllegalStateException" Bundle.tN "cause" "Ljava/lang/Throwable;", .lays "java/lang/IllegalStateException" Bundle.tN "stackTrace" Bundle.steD, .lays "java/lang/IllegalStateException" Bundle.tN "suppressedExceptions" Bundle.listD, .lays "java/lang/IllegalStateException" Bundle.tN "detailMessage" "Ljava/lang/String;", .isRef (.static Bundle.tN "UNASSIGNED_STACK" Bundle.steD), .isRef (.static Bundle.tN "SUPPRESSED_SENTINEL" Bundle.listD), .fieldLink Bundle.tN 198 Bundle.tN "backtrace" "Ljava/lang/Object;", .lays Bundle.tN Bundle.tN "backtrace" "Ljava/lang/Object;", .lays "java/lang/IllegalStateException" Bundle.tN "backtrace" "Ljava/lang/Object;"], vx_no w = true → rv_wok w := by
  intro w hw
  simp only [List.mem_cons, List.not_mem_nil, or_false] at hw
  rcases hw with rfl | rfl | rfl | rfl | rfl | rfl | rfl | rfl | rfl | rfl | rfl | rfl | rfl
  · exact fun _ => ⟨Or.inl q1067, rfl⟩
  · exact fun _ => ⟨Or.inr (Or.inl ⟨_, _, rfl, q1068⟩), rfl⟩
  · exact fun _ => ⟨Or.inl q1069, rfl⟩
  · exact fun _ => ⟨Or.inl q231, rfl⟩
  · exact fun _ => ⟨Or.inl q1070, rfl⟩
  · exact fun _ => ⟨Or.inl q1071, rfl⟩
  · exact fun _ => ⟨Or.inl q1072, rfl⟩
  · exact fun _ => ⟨Or.inl q1073, rfl⟩
  · exact fun h => absurd h (by decide)
  · exact fun h => absurd h (by decide)
  · exact fun _ => ⟨Or.inl q216, rfl⟩
  · exact fun _ => ⟨Or.inl q215, rfl⟩
  · exact fun _ => ⟨Or.inl q1074, rfl⟩
theorem tw_ISE {own : String} {ic : Nat} (hm : (Cond.methodLink own ic (Bundle.init0 "java/lang/IllegalStateException")) ∈ lw_all) : ∀ w ∈ vx_at0 own ic "java/lang/IllegalStateException" ["java/lang/RuntimeException", "java/lang/Exception"], rv_wok w := by
  intro w hw
  obtain ⟨h1, h2⟩ := List.mem_filter.mp hw
  rcases List.mem_append.mp h1 with h1 | h1
  · rcases List.mem_append.mp h1 with h1 | h1
    · exact tw_thr w h1 h2
    · exact tw_cISE w h1 h2
  · rcases List.mem_cons.mp h1 with h1 | h1
    · subst h1
      exact ⟨Or.inl hm, rfl⟩
    · exact tw_tISE w h1 h2
theorem tw_cIOB : ∀ w ∈ Bundle.chain0Atoms "java/lang/IndexOutOfBoundsException" ["java/lang/RuntimeException", "java/lang/Exception"], vx_no w = true → rv_wok w := by
  intro w hw
  simp only [Bundle.chain0Atoms, Bundle.passAtoms, List.mem_append, List.mem_cons, List.not_mem_nil, or_false, or_assoc] at hw
  rcases hw with rfl | rfl | rfl | rfl | rfl | rfl | rfl | rfl | rfl | rfl | rfl | rfl | rfl | rfl | rfl
  · exact fun _ => ⟨Or.inl q1196, rfl⟩
  · exact fun _ => ⟨Or.inl q1197, rfl⟩
  · exact fun _ => ⟨Or.inl q1198, rfl⟩
  · exact fun _ => ⟨Or.inl q1118, rfl⟩
  · exact fun _ => ⟨Or.inr (Or.inr ⟨_, rfl, q198⟩), rfl⟩
  · exact fun _ => ⟨Or.inl q1118, rfl⟩
  · exact fun _ => ⟨Or.inl q1119, rfl⟩
  · exact fun _ => ⟨Or.inl q1120, rfl⟩
  · exact fun _ => ⟨Or.inl q1121, rfl⟩
  · exact fun _ => ⟨Or.inr (Or.inr ⟨_, rfl, q200⟩), rfl⟩
  · exact fun _ => ⟨Or.inl q1121, rfl⟩
  · exact fun _ => ⟨Or.inl q1122, rfl⟩
  · exact fun _ => ⟨Or.inl q1123, rfl⟩
  · exact fun _ => ⟨Or.inl q218, rfl⟩
  · exact fun _ => ⟨Or.inr (Or.inr ⟨_, rfl, q202⟩), rfl⟩
theorem tw_tIOB : ∀ w ∈ [Cond.instantiable "java/lang/IndexOutOfBoundsException" 6, .castable "java/lang/IndexOutOfBoundsException" "java/lang/IndexOutOfBoundsException", .selects "java/lang/IndexOutOfBoundsException" Bundle.tFill0 Bundle.tFill0, .selects "java/lang/IndexOutOfBoundsException" Bundle.tFill Bundle.tFill, .lays "java/lang/IndexOutOfBoundsException" Bundle.tN "cause" "Ljava/lang/Throwable;", .lays "java/lang/IndexOutOfBoundsException" Bundle.tN "stackTrace" Bundle.steD, .lays "java/lang/IndexOutOfBoundsException" Bundle.tN "suppressedExceptions" Bundle.listD, .lays "java/lang/IndexOutOfBoundsException" Bundle.tN "detailMessage" "Ljava/lang/String;", .isRef (.static Bundle.tN "UNASSIGNED_STACK" Bundle.steD), .isRef (.static Bundle.tN "SUPPRESSED_SENTINEL" Bundle.listD), .fieldLink Bundle.tN 198 Bundle.tN "backtrace" "Ljava/lang/Object;", .lays Bundle.tN Bundle.tN "backtrace" "Ljava/lang/Object;", .lays "java/lang/IndexOutOfBoundsException" Bundle.tN "backtrace" "Ljava/lang/Object;"], vx_no w = true → rv_wok w := by
  intro w hw
  simp only [List.mem_cons, List.not_mem_nil, or_false] at hw
  rcases hw with rfl | rfl | rfl | rfl | rfl | rfl | rfl | rfl | rfl | rfl | rfl | rfl | rfl
  · exact fun _ => ⟨Or.inl q1187, rfl⟩
  · exact fun _ => ⟨Or.inr (Or.inl ⟨_, _, rfl, q1188⟩), rfl⟩
  · exact fun _ => ⟨Or.inl q1189, rfl⟩
  · exact fun _ => ⟨Or.inl q232, rfl⟩
  · exact fun _ => ⟨Or.inl q1190, rfl⟩
  · exact fun _ => ⟨Or.inl q1191, rfl⟩
  · exact fun _ => ⟨Or.inl q1192, rfl⟩
  · exact fun _ => ⟨Or.inl q1193, rfl⟩
  · exact fun h => absurd h (by decide)
  · exact fun h => absurd h (by decide)
  · exact fun _ => ⟨Or.inl q216, rfl⟩
  · exact fun _ => ⟨Or.inl q215, rfl⟩
  · exact fun _ => ⟨Or.inl q1194, rfl⟩
theorem tw_IOB {own : String} {ic : Nat} (hm : (Cond.methodLink own ic (Bundle.init0 "java/lang/IndexOutOfBoundsException")) ∈ lw_all) : ∀ w ∈ vx_at0 own ic "java/lang/IndexOutOfBoundsException" ["java/lang/RuntimeException", "java/lang/Exception"], rv_wok w := by
  intro w hw
  obtain ⟨h1, h2⟩ := List.mem_filter.mp hw
  rcases List.mem_append.mp h1 with h1 | h1
  · rcases List.mem_append.mp h1 with h1 | h1
    · exact tw_thr w h1 h2
    · exact tw_cIOB w h1 h2
  · rcases List.mem_cons.mp h1 with h1 | h1
    · subst h1
      exact ⟨Or.inl hm, rfl⟩
    · exact tw_tIOB w h1 h2
theorem tw_cCRW : ∀ w ∈ Bundle.chain0Atoms "Rulehearth$CrowdException" ["java/lang/Exception"], vx_no w = true → rv_wok w := by
  intro w hw
  simp only [Bundle.chain0Atoms, Bundle.passAtoms, List.mem_append, List.mem_cons, List.not_mem_nil, or_false, or_assoc] at hw
  rcases hw with rfl | rfl | rfl | rfl | rfl | rfl | rfl | rfl | rfl | rfl
  · exact fun _ => ⟨Or.inl q1276, rfl⟩
  · exact fun _ => ⟨Or.inl q1277, rfl⟩
  · exact fun _ => ⟨Or.inl q1278, rfl⟩
  · exact fun _ => ⟨Or.inl q1121, rfl⟩
  · exact fun _ => ⟨Or.inr (Or.inr ⟨_, rfl, q200⟩), rfl⟩
  · exact fun _ => ⟨Or.inl q1121, rfl⟩
  · exact fun _ => ⟨Or.inl q1122, rfl⟩
  · exact fun _ => ⟨Or.inl q1123, rfl⟩
  · exact fun _ => ⟨Or.inl q218, rfl⟩
  · exact fun _ => ⟨Or.inr (Or.inr ⟨_, rfl, q202⟩), rfl⟩
theorem tw_tCRW : ∀ w ∈ [Cond.instantiable "Rulehearth$CrowdException" 6, .castable "Rulehearth$CrowdException" "Rulehearth$CrowdException", .selects "Rulehearth$CrowdException" Bundle.tFill0 Bundle.tFill0, .selects "Rulehearth$CrowdException" Bundle.tFill Bundle.tFill, .lays "Rulehearth$CrowdException" Bundle.tN "cause" "Ljava/lang/Throwable;", .lays "Rulehearth$CrowdException" Bundle.tN "stackTrace" Bundle.steD, .lays "Rulehearth$CrowdException" Bundle.tN "suppressedExceptions" Bundle.listD, .lays "Rulehearth$CrowdException" Bundle.tN "detailMessage" "Ljava/lang/String;", .isRef (.static Bundle.tN "UNASSIGNED_STACK" Bundle.steD), .isRef (.static Bundle.tN "SUPPRESSED_SENTINEL" Bundle.listD), .fieldLink Bundle.tN 198 Bundle.tN "backtrace" "Ljava/lang/Object;", .lays Bundle.tN Bundle.tN "backtrace" "Ljava/lang/Object;", .lays "Rulehearth$CrowdException" Bundle.tN "backtrace" "Ljava/lang/Object;"], vx_no w = true → rv_wok w := by
  intro w hw
  simp only [List.mem_cons, List.not_mem_nil, or_false] at hw
  rcases hw with rfl | rfl | rfl | rfl | rfl | rfl | rfl | rfl | rfl | rfl | rfl | rfl | rfl
  · exact fun _ => ⟨Or.inl q1267, rfl⟩
  · exact fun _ => ⟨Or.inr (Or.inl ⟨_, _, rfl, q1268⟩), rfl⟩
  · exact fun _ => ⟨Or.inl q1269, rfl⟩
  · exact fun _ => ⟨Or.inl q228, rfl⟩
  · exact fun _ => ⟨Or.inl q1270, rfl⟩
  · exact fun _ => ⟨Or.inl q1271, rfl⟩
  · exact fun _ => ⟨Or.inl q1272, rfl⟩
  · exact fun _ => ⟨Or.inl q1273, rfl⟩
  · exact fun h => absurd h (by decide)
  · exact fun h => absurd h (by decide)
  · exact fun _ => ⟨Or.inl q216, rfl⟩
  · exact fun _ => ⟨Or.inl q215, rfl⟩
  · exact fun _ => ⟨Or.inl q1274, rfl⟩
theorem tw_CRW {own : String} {ic : Nat} (hm : (Cond.methodLink own ic (Bundle.init0 "Rulehearth$CrowdException")) ∈ lw_all) : ∀ w ∈ vx_at0 own ic "Rulehearth$CrowdException" ["java/lang/Exception"], rv_wok w := by
  intro w hw
  obtain ⟨h1, h2⟩ := List.mem_filter.mp hw
  rcases List.mem_append.mp h1 with h1 | h1
  · rcases List.mem_append.mp h1 with h1 | h1
    · exact tw_thr w h1 h2
    · exact tw_cCRW w h1 h2
  · rcases List.mem_cons.mp h1 with h1 | h1
    · subst h1
      exact ⟨Or.inl hm, rfl⟩
    · exact tw_tCRW w h1 h2
/-! static fields of Throwable: null or some reference -/
theorem rv_zq {G : rv_G} (hG : rv_GK G) {C n ds : String} (p : List Bool) (hp : nw_get narrow_1 p = Cond.isRef (.static C n ds)) (hl : (Cond.laysStatic C n ds) ∈ lw_tbl) (hi : (Cond.initialized C) ∈ lw_tbl) : vx_Zq C n ds (fun q => rv_b G ≤ q) G.2.1 G.2.1.heap := by
  obtain ⟨a0, h0, h1⟩ := rv_nar hG
  have h2 := h1 p
  rw [hp] at h2
  exact vx_Zqof (h0 _ hl) (h0 _ hi) h2 (fun a ha => Nat.not_le.mpr ha)
theorem rv_zqU {G : rv_G} (hG : rv_GK G) : vx_Zq Bundle.tN "UNASSIGNED_STACK" "[Ljava/lang/StackTraceElement;" (fun q => rv_b G ≤ q) G.2.1 G.2.1.heap := rv_zq hG (nw_p [0, 0, 0, 0, 0, 0, 0, 0, 1, 0, 0]) rfl q222 (lw_all_tbl q129)
theorem rv_zqN {G : rv_G} (hG : rv_GK G) : vx_Zq Bundle.tN "SUPPRESSED_SENTINEL" "Ljava/util/List;" (fun q => rv_b G ≤ q) G.2.1 G.2.1.heap := rv_zq hG (nw_p [0, 0, 0, 0, 0, 0, 0, 0, 1, 0, 1, 0]) rfl q224 (lw_all_tbl q129)
section TT
variable {X : rv_X} {y : MethodName} {cc : ByteArray} {d ix ic : Nat} {h h0 : rv_H} {pc : Nat} {L : List (Option Value)} {st : List Value} {F : xF} {A : List Nat} {M : xM} {n m : Nat}
/-- 'throw new E()', not caught here -/
theorem rv_throw0 (hX : rv_K X y cc d) {ret : Option FieldType} {hh : List ExceptionTableEntry} {Qe : rv_O → rv_H → Prop} (hE : rv_E X ret hh Qe) {cls : String} {names : List String} (hcls : Bundle.fit cls = true) (hnames : ∀ n ∈ names, Bundle.fit n = true) (hk : (Cond.classLink y.cls ix cls) ∈ lw_all) (hini : (Cond.initialized cls) ∈ lw_all) (hat : ∀ w ∈ vx_at0 y.cls ic cls names, rv_wok w) (d0 : decode cc pc = .ok (.new ix, 3)) (d3 : decode cc (pc + 3) = .ok (.dup, 1)) (d4 : decode cc (pc + 4) = .ok (.invokespecial ic, 3)) (d7 : decode cc (pc + 7) = .ok (.athrow, 1)) (hout : ∀ x ∈ hh, covers x (pc + 7) = false) (hd : names.length + 4 ≤ d) (hnl : names.length ≤ 4) (hroom : (st.map fun v => v.category).sum ≤ 8) (hC : h.2.1 + 1 ≤ rv_b X.1 + rv_cN) (hS : h.2.2 + 6 ≤ rv_cS) (kk : ∀ h' : rv_H, h'.1 = h.1 → h.2.1 ≤ h'.2.1 → h'.2.1 ≤ h.2.1 + 1 → h'.2.2 ≤ h.2.2 + 6 → Qe (.inr cls) h') : rv_V X h pc L st := by
  have w1 := rv_words hX hk
  have w2 := rv_words hX hini
  have w3 := fun w hw => rv_wok.at hX (hat w hw)
  obtain ⟨G, p, e, R, s, m, args, below, meth, c, Qw⟩ := X
  intro H ls locs hR hL hz
  obtain ⟨hx, hb, hown, hlk, hGK, hW, ⟨hs, hRs, hRc, hRsl⟩, hfr, hlo, -⟩ := hX
  obtain ⟨hr, ht, hQ⟩ := hE
  subst hQ
  have h0 : H.size = h.2.1 := hR.1
  have hs0 : s.heap.size = hs.2.1 := hRs.1
  have hs1 : rv_sz (rv_b G) s.heap = hs.2.2 := hRs.2.2.2.2.1
  intro T9 hT XS
  have hle : s.heap.size ≤ H.size := by rw [← hT]; exact XS.same.2.1
  have hle2 : hs.2.2 ≤ h.2.2 := by
    have e1 := rv_old_sz XS.same (b := rv_b G) hRs.2.1
    rw [hT, hR.2.2.2.2.1, hs1] at e1
    omega
  have hkq : ∀ q : Nat, q < rv_b G → H[q]? = s.heap[q]? := fun q hq => (hR.2.2.1 q hq).trans (hRs.2.2.1 q hq).symm
  have hS9 : va_S (fun q => rv_b G ≤ q) s.heap H locs := ⟨hle, fun q hq hn => hkq q (Nat.not_le.mp hn), hz⟩
  have hUq := vx_Zq.moved hW.alike (rv_zqU hGK)
  have hNq := vx_Zq.moved hW.alike (rv_zqN hGK)
  have hkeep : ∀ a : Nat, a < G.2.1.heap.size → ¬ rv_b G ≤ a → s.heap[a]? = G.2.1.heap[a]? := fun a _ hn => hRs.2.2.1 a (Nat.not_le.mp hn)
  have hC9 : h.2.1 + 1 ≤ rv_b G + rv_cN := hC
  have hsp : ∀ t : State, H.size ≤ t.heap.size → rv_sz H.size t.heap ≤ 6 → (∀ q : Nat, q < H.size → t.heap[q]? = H[q]?) → rv_sz (rv_b G) t.heap ≤ h.2.2 + 6 := by
    intro t k1 k3 k4
    rw [rv_sz_split (b := rv_b G) (n := H.size) hR.2.1]
    have e2 : rv_sz (rv_b G) H = h.2.2 := hR.2.2.2.2.1
    have e3 : ((((t.heap.toList.drop (rv_b G)).take (H.size - rv_b G)).map (·.slots.size)).sum) = rv_sz (rv_b G) H := by
      unfold rv_sz
      congr 2
      apply List.ext_getElem?
      intro i
      rw [List.getElem?_take, List.getElem?_drop, List.getElem?_drop]
      by_cases hi : i < H.size - rv_b G
      · rw [if_pos hi, Array.getElem?_toList, Array.getElem?_toList]
        exact k4 _ (by omega)
      · rw [if_neg hi, List.getElem?_eq_none (by simp; omega)]
    omega
  refine rv_tight (k := R.cells) (n := R.slots) hR hRs ?_ T9 hT XS
  refine rv_throwB (A := fun q => rv_b G ≤ q) hx hb hGK.2.2.1 hown hcls hnames w1 w2 w3 (fun w hw => ?_) (hUq.kept hkeep) (hNq.kept hkeep) hS9 hL.1.1 d0 d3 d4 d7 (by rw [ht]; exact hout) (by omega) (by show (st.map fun v => v.category).sum + (13 * (names.length + 1) + 42) ≤ R.locals; omega) (by omega) (by omega) hlk (fun t hA k1 k2 k3 k4 => ?_) hz (by omega) (by omega)
  · rcases List.mem_cons.mp hw with hw | hw
    · subst hw; rfl
    · rcases List.mem_cons.mp hw with hw | hw
      · subst hw; rfl
      · exact (hat w hw).2
  · refine ⟨(h.1, t.heap.size, rv_sz (rv_b G) t.heap), ⟨rfl, Nat.le_trans hR.2.1 k1, fun q hq => (k4 q (Nat.lt_of_lt_of_le hq hR.2.1)).trans (hR.2.2.1 q hq), fun a c9 hc => ?_, rfl, ?_, ?_, fun a o ho x hx => hR.2.2.2.2.2.2.2 a o ho x (by rw [← k4 a (rv_at_lt (hR.2.2.2.1 a _ ho).2)]; exact hx)⟩, kk _ rfl (by show h.2.1 ≤ t.heap.size; omega) (by show t.heap.size ≤ h.2.1 + 1; omega) ?_⟩
    · have hca := hR.2.2.2.1 a c9 hc
      exact ⟨hca.1, rv_at_kept hca.2 (k4 a (rv_at_lt hca.2))⟩
    · show t.heap.size ≤ rv_b G + rv_cN
      omega
    · exact Nat.le_trans (hsp t k1 k3 k4) hS
    · exact hsp t k1 k3 k4
theorem xS.thrown (hS : xS X.1 F h0 A M n m h) {h' : rv_H} (hn : 1 ≤ n) (hm : 6 ≤ m) (e1 : h'.1 = h.1) (e2 : h.2.1 ≤ h'.2.1) (e3 : h'.2.1 ≤ h.2.1 + 1) (e4 : h'.2.2 ≤ h.2.2 + 6) : xS X.1 F h0 A M (n - 1) (m - 6) h' := by
  obtain ⟨⟨q1, q2, q3, q4, q5, q6⟩, q7, q8⟩ := hS
  refine ⟨⟨fun a c e => by rw [e1]; exact q1 a c e, fun q hq => by rw [e1]; exact q2 q hq, q3, ⟨Nat.le_trans q4.1 e2, fun a c e => ?_⟩, by omega, by omega⟩, ⟨Nat.le_trans q7.1 e2, fun b hb hn9 => by rw [e1]; exact q7.2 b hb hn9⟩, q8⟩
  rw [e1] at e
  have := q4.2 a c e
  exact ⟨this.1, Nat.lt_of_lt_of_le this.2 e2⟩
end TT

/-! X: what is thrown: its words -/
set_option maxRecDepth 100000
def nA : List String := ["java/lang/IndexOutOfBoundsException", "java/lang/RuntimeException", "java/lang/Exception"]
def nB : List String := ["java/lang/RuntimeException", "java/lang/Exception"]
def exA : List Cond := vx_atM "java/lang/ArrayIndexOutOfBoundsException" nA
def exC : List Cond := vx_atM "java/lang/ClassCastException" nB
def exS : List Cond := vx_atM "java/lang/NegativeArraySizeException" nB
def exN : List Cond := vx_atN 8
theorem exA_tbl : ∀ w ∈ exA, w ∈ lw_tbl := by decide +kernel
theorem exC_tbl : ∀ w ∈ exC, w ∈ lw_tbl := by decide +kernel
theorem exS_tbl : ∀ w ∈ exS, w ∈ lw_tbl := by decide +kernel
theorem exN_tbl : ∀ w ∈ exN, w ∈ lw_tbl := by decide +kernel
theorem exA_zW : ∀ w ∈ exA.filter (fun w => !goodWord w), w ∈ zW := by decide +kernel
theorem exC_zW : ∀ w ∈ exC.filter (fun w => !goodWord w), w ∈ zW := by decide +kernel
theorem exS_zW : ∀ w ∈ exS.filter (fun w => !goodWord w), w ∈ zW := by decide +kernel
theorem exN_zW : ∀ w ∈ exN.filter (fun w => !goodWord w), w ∈ zW := by decide +kernel
theorem exA_ot : ∀ w ∈ exA, vx_ot w = true := by decide +kernel
theorem exC_ot : ∀ w ∈ exC, vx_ot w = true := by decide +kernel
theorem exS_ot : ∀ w ∈ exS, vx_ot w = true := by decide +kernel
theorem exN_ot : ∀ w ∈ exN, vx_ot w = true := by decide +kernel
theorem ex_hold {args : Array Value} {s : State} {X : List Cond} (ht : ∀ w ∈ X, w ∈ lw_tbl) (hz : ∀ w ∈ X.filter (fun w => !goodWord w), w ∈ zW) (hts : ∀ w ∈ lw_all, w.before args s = true) (hE : ZE s) : ∀ w ∈ X, w.before args s = true := by
  intro w hw
  by_cases g : goodWord w = true
  · exact hts w (lw_g (ht w hw) g)
  · have hm := hz w (List.mem_filter.mpr ⟨hw, by cases hg : goodWord w with
      | true => exact absurd hg g
      | false => rfl⟩)
    exact va_Nw.use (zk_tab (zW_k w hm)) (hE.1 w hm)
/-- what throwing asks of the heap, the launch, the modules; what isn't caught -/
def zNc : List (String × String) := [("java/lang/ArrayIndexOutOfBoundsException", "java/lang/NullPointerException"), ("java/lang/ArrayIndexOutOfBoundsException", "java/lang/ClassCastException"), ("java/lang/ClassCastException", "java/lang/NullPointerException"), ("java/lang/NullPointerException", "java/lang/ClassCastException")]
def zCastR : List (String × String) := [RX15, RX16, RX17, RX18, RX19, RX20, RX21, RX22].map (fun c => (c, "PromiseRoofs$Row"))
def zCastB : List (String × String) := [RX15, RX16, RX17, RX18, RX19, RX20, RX21, RX22, RX25, RX26, RX27, RX28].map (fun c => (c, RX24))
def zCastS : List (String × String) := [RX24, RX25, RX26, RX27, RX28].map (fun c => (c, RX15))
def zCastK : List (String × String) := [(RX24, RX25), (RX24, RX26), (RX24, RX27), (RX24, RX28), (RX25, RX26), (RX25, RX27), (RX25, RX28), (RX26, RX24), (RX26, RX25), (RX26, RX27), (RX26, RX28), (RX27, RX24), (RX27, RX25), (RX27, RX26), (RX27, RX28), (RX28, RX24), (RX28, RX25), (RX28, RX26), (RX28, RX27), (RX25, RX24)]
def zCasts : List (String × String) := zNc ++ (zCastR ++ (zCastB ++ (zCastS ++ zCastK)))
def ZH (l : Launch) (B : Nat) (U : State) : Prop := l.stackTraces = false ∧ vx_Zq Bundle.tN "UNASSIGNED_STACK" Bundle.steD (zA B) U U.heap ∧ vx_Zq Bundle.tN "SUPPRESSED_SENTINEL" Bundle.listD (zA B) U U.heap ∧ modulesRight_1 U = true ∧ ∀ q ∈ zCasts, va_Nc q.1 q.2 U

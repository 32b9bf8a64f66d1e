/-! RiverGauge -/
set_option maxRecDepth 100000
def RX0 : String := "RiverGauge"
def TX0 : u_T := fun k => match k with
  | 0 => ("RiverGauge", "now", "I", false)
  | 1 => ("RiverGauge", "postMany", "I", false)
  | 2 => ("RiverGauge", "firstZeros", "[I", true)
  | 3 => ("RiverGauge", "zeros", "[LRiverGauge$Zero;", true)
  | 4 => ("RiverGauge", "zeroMany", "I", false)
  | 5 => ("RiverGauge", "heights", "[LRiverGauge$Height;", true)
  | 6 => ("RiverGauge", "heightMany", "I", false)
  | 7 => ("RiverGauge", "flows", "[LRiverGauge$Flow;", true)
  | 8 => ("RiverGauge", "flowMany", "I", false)
  | 9 => ("RiverGauge", "standards", "[LRiverGauge$Standard;", true)
  | 10 => ("RiverGauge", "standardMany", "I", false)
  | 11 => ("RiverGauge", "covers", "[LRiverGauge$Cover;", true)
  | 12 => ("RiverGauge", "coverMany", "I", false)
  | 13 => ("RiverGauge", "lows", "[I", true)
  | 14 => ("RiverGauge", "stretches", "[[I", true)
  | 15 => ("RiverGauge", "stretchMany", "[I", true)
  | 16 => ("RiverGauge", "bases", "[LRiverGauge$Base;", true)
  | 17 => ("RiverGauge", "neighbours", "[I", true)
  | 18 => ("RiverGauge", "tape", "[B", true)
  | 19 => ("RiverGauge", "tapeMany", "I", false)
  | 20 => ("RiverGauge", "row", "[B", true)
  | 21 => ("RiverGauge", "rowMany", "I", false)
  | 22 => ("RiverGauge", "pubPost", "[I", true)
  | 23 => ("RiverGauge", "pubTime", "[I", true)
  | 24 => ("RiverGauge", "pubFlow", "[I", true)
  | 25 => ("RiverGauge", "pubMany", "I", false)
  | 26 => ("RiverGauge", "limit", "I", false)
  | 27 => ("RiverGauge", "refused", "[I", true)
  | 28 => ("RiverGauge", "letters", "[I", true)
  | 29 => ("RiverGauge", "kept", "LRiverGauge$Curve;", false)
  | 30 => ("RiverGauge", "keptPost", "I", false)
  | 31 => ("RiverGauge", "keptFrom", "I", false)
  | 32 => ("RiverGauge", "keptTo", "I", false)
  | 33 => ("RiverGauge", "keptOn", "I", false)
  | 34 => ("RiverGauge", "keptOther", "LRiverGauge$Curve;", false)
  | 35 => ("RiverGauge", "otherPost", "I", false)
  | 36 => ("RiverGauge", "otherFrom", "I", false)
  | 37 => ("RiverGauge", "otherTo", "I", false)
  | 38 => ("RiverGauge", "otherOn", "I", false)
  | 39 => ("RiverGauge", "measured", "[LRiverGauge$Flow;", true)
  | 40 => ("RiverGauge", "measuredHeight", "[I", true)
  | 41 => ("RiverGauge", "measuredMany", "I", false)
  | 42 => ("RiverGauge", "goes", "[Z", true)
  | 43 => ("RiverGauge", "fewest", "I", false)
  | 44 => ("RiverGauge", "rivals", "I", false)
  | 45 => ("RiverGauge", "toldSet", "I", false)
  | 46 => ("RiverGauge", "gapFrom", "I", false)
  | _ => ("RiverGauge", "gapTo", "I", false)
def tyX0 : Nat → FieldType := fun k => match k with
  | 0 => .int
  | 1 => .int
  | 2 => .array .int
  | 3 => .array (.object "RiverGauge$Zero")
  | 4 => .int
  | 5 => .array (.object "RiverGauge$Height")
  | 6 => .int
  | 7 => .array (.object "RiverGauge$Flow")
  | 8 => .int
  | 9 => .array (.object "RiverGauge$Standard")
  | 10 => .int
  | 11 => .array (.object "RiverGauge$Cover")
  | 12 => .int
  | 13 => .array .int
  | 14 => .array (.array .int)
  | 15 => .array .int
  | 16 => .array (.object "RiverGauge$Base")
  | 17 => .array .int
  | 18 => .array .byte
  | 19 => .int
  | 20 => .array .byte
  | 21 => .int
  | 22 => .array .int
  | 23 => .array .int
  | 24 => .array .int
  | 25 => .int
  | 26 => .int
  | 27 => .array .int
  | 28 => .array .int
  | 29 => .object "RiverGauge$Curve"
  | 30 => .int
  | 31 => .int
  | 32 => .int
  | 33 => .int
  | 34 => .object "RiverGauge$Curve"
  | 35 => .int
  | 36 => .int
  | 37 => .int
  | 38 => .int
  | 39 => .array (.object "RiverGauge$Flow")
  | 40 => .array .int
  | 41 => .int
  | 42 => .array .boolean
  | 43 => .int
  | 44 => .int
  | 45 => .int
  | 46 => .int
  | _ => .int
abbrev wsX00 : List Cond := u_ws RX0 TX0 48
set_option maxRecDepth 100000 in
theorem nmX0 : ∀ a, a < 48 → ∀ b, b < 48 → a ≠ b → (TX0 a).2.1 ≠ (TX0 b).2.1 := by decide +kernel
set_option maxRecDepth 100000 in
theorem tyX0_ok : ∀ k, k < 48 → parseFieldDescriptor (TX0 k).2.2.1 = some (tyX0 k) := by decide +kernel
abbrev cX0_init : ByteArray := prog_1_method_7_code
def yX0_init : MethodName := ⟨RX0, "<init>", "()V"⟩
abbrev cX0_go : ByteArray := prog_1_method_57_code
def yX0_go : MethodName := ⟨RX0, "go", "(I)I"⟩
abbrev cX0_act : ByteArray := prog_1_method_45_code
def yX0_act : MethodName := ⟨RX0, "act", "(IIIIII)I"⟩
abbrev cX0_ofOffice : ByteArray := prog_1_method_47_code
def yX0_ofOffice : MethodName := ⟨RX0, "ofOffice", "(IIIIII)I"⟩
abbrev cX0_ofPosts : ByteArray := prog_1_method_48_code
def yX0_ofPosts : MethodName := ⟨RX0, "ofPosts", "(IIII)I"⟩
abbrev cX0_must : ByteArray := prog_1_method_2_code
def yX0_must : MethodName := ⟨RX0, "must", "(ZI)V"⟩
abbrev cX0_mustBe : ByteArray := prog_1_method_4_code
def yX0_mustBe : MethodName := ⟨RX0, "mustBe", "(II)V"⟩
abbrev cX0_in : ByteArray := prog_1_method_1_code
def yX0_in : MethodName := ⟨RX0, "in", "(JJJ)Z"⟩
abbrev cX0_stale : ByteArray := prog_1_method_18_code
def yX0_stale : MethodName := ⟨RX0, "stale", "()V"⟩
abbrev cX0_zeroOf : ByteArray := prog_1_method_8_code
def yX0_zeroOf : MethodName := ⟨RX0, "zeroOf", "(III)I"⟩
abbrev cX0_ofHeights : ByteArray := prog_1_method_49_code
def yX0_ofHeights : MethodName := ⟨RX0, "ofHeights", "(IIIII)I"⟩
abbrev cX0_mustBeTime : ByteArray := prog_1_method_5_code
def yX0_mustBeTime : MethodName := ⟨RX0, "mustBeTime", "(I)V"⟩
abbrev cX0_within : ByteArray := prog_1_method_3_code
def yX0_within : MethodName := ⟨RX0, "within", "(JJJ)V"⟩
abbrev cX0_struckBy : ByteArray := prog_1_method_13_code
def yX0_struckBy : MethodName := ⟨RX0, "struckBy", "(II)I"⟩
abbrev cX0_standardFor : ByteArray := prog_1_method_9_code
def yX0_standardFor : MethodName := ⟨RX0, "standardFor", "(III)LRiverGauge$Standard;"⟩
abbrev cX0_aheadOf : ByteArray := prog_1_method_12_code
def yX0_aheadOf : MethodName := ⟨RX0, "aheadOf", "(II)LRiverGauge$Height;"⟩
abbrev cX0_clearLetters : ByteArray := prog_1_method_10_code
def yX0_clearLetters : MethodName := ⟨RX0, "clearLetters", "(I)V"⟩
abbrev cX0_heightOf : ByteArray := prog_1_method_16_code
def yX0_heightOf : MethodName := ⟨RX0, "heightOf", "(III)I"⟩
abbrev cX0_countingAt : ByteArray := prog_1_method_14_code
def yX0_countingAt : MethodName := ⟨RX0, "countingAt", "(III)I"⟩
abbrev cX0_doesCount : ByteArray := prog_1_method_17_code
def yX0_doesCount : MethodName := ⟨RX0, "doesCount", "(LRiverGauge$Flow;I)Z"⟩
abbrev cX0_hasHeight : ByteArray := prog_1_method_15_code
def yX0_hasHeight : MethodName := ⟨RX0, "hasHeight", "(III)Z"⟩
abbrev cX0_ofCurves : ByteArray := prog_1_method_50_code
def yX0_ofCurves : MethodName := ⟨RX0, "ofCurves", "(IIIIII)I"⟩
abbrev cX0_tellStandard : ByteArray := prog_1_method_51_code
def yX0_tellStandard : MethodName := ⟨RX0, "tellStandard", "(II)I"⟩
abbrev cX0_curveFor : ByteArray := prog_1_method_21_code
def yX0_curveFor : MethodName := ⟨RX0, "curveFor", "(III)LRiverGauge$Curve;"⟩
abbrev cX0_curve : ByteArray := prog_1_method_19_code
def yX0_curve : MethodName := ⟨RX0, "curve", "(IIII)LRiverGauge$Curve;"⟩
abbrev cX0_make : ByteArray := prog_1_method_20_code
def yX0_make : MethodName := ⟨RX0, "make", "(IIII)LRiverGauge$Curve;"⟩
abbrev cX0_ofBreaks : ByteArray := prog_1_method_53_code
def yX0_ofBreaks : MethodName := ⟨RX0, "ofBreaks", "(IIIII)I"⟩
abbrev cX0_reckon : ByteArray := prog_1_method_23_code
def yX0_reckon : MethodName := ⟨RX0, "reckon", "(III)LRiverGauge$Reckoned;"⟩
abbrev cX0_covered : ByteArray := prog_1_method_22_code
def yX0_covered : MethodName := ⟨RX0, "covered", "(IIII)I"⟩
abbrev cX0_isUnder : ByteArray := prog_1_method_24_code
def yX0_isUnder : MethodName := ⟨RX0, "isUnder", "(III)Z"⟩
abbrev cX0_tellBase : ByteArray := prog_1_method_52_code
def yX0_tellBase : MethodName := ⟨RX0, "tellBase", "(IIII)I"⟩
abbrev cX0_findBreaks : ByteArray := prog_1_method_31_code
def yX0_findBreaks : MethodName := ⟨RX0, "findBreaks", "(I)V"⟩
abbrev cX0_findMeasured : ByteArray := prog_1_method_26_code
def yX0_findMeasured : MethodName := ⟨RX0, "findMeasured", "(I)V"⟩
abbrev cX0_ones : ByteArray := prog_1_method_6_code
def yX0_ones : MethodName := ⟨RX0, "ones", "(I)I"⟩
abbrev cX0_goesAll : ByteArray := prog_1_method_30_code
def yX0_goesAll : MethodName := ⟨RX0, "goesAll", "(I)Z"⟩
abbrev cX0_endOf : ByteArray := prog_1_method_29_code
def yX0_endOf : MethodName := ⟨RX0, "endOf", "(II)I"⟩
abbrev cX0_shiftOf : ByteArray := prog_1_method_28_code
def yX0_shiftOf : MethodName := ⟨RX0, "shiftOf", "(II)I"⟩
abbrev cX0_goWith : ByteArray := prog_1_method_27_code
def yX0_goWith : MethodName := ⟨RX0, "goWith", "(III)Z"⟩
abbrev cX0_shiftTold : ByteArray := prog_1_method_32_code
def yX0_shiftTold : MethodName := ⟨RX0, "shiftTold", "(II)I"⟩
abbrev cX0_judgeRow : ByteArray := prog_1_method_33_code
def yX0_judgeRow : MethodName := ⟨RX0, "judgeRow", "(I)I"⟩
abbrev cX0_ofFloods : ByteArray := prog_1_method_54_code
def yX0_ofFloods : MethodName := ⟨RX0, "ofFloods", "(IIIIII)I"⟩
abbrev cX0_tryReckon : ByteArray := prog_1_method_25_code
def yX0_tryReckon : MethodName := ⟨RX0, "tryReckon", "(III)LRiverGauge$Reckoned;"⟩
abbrev cX0_mendIt : ByteArray := prog_1_method_43_code
def yX0_mendIt : MethodName := ⟨RX0, "mendIt", "()I"⟩
abbrev cX0_ofTimes : ByteArray := prog_1_method_55_code
def yX0_ofTimes : MethodName := ⟨RX0, "ofTimes", "(IIIIII)I"⟩
abbrev cX0_gapTold : ByteArray := prog_1_method_36_code
def yX0_gapTold : MethodName := ⟨RX0, "gapTold", "(III)I"⟩
abbrev cX0_findGap : ByteArray := prog_1_method_34_code
def yX0_findGap : MethodName := ⟨RX0, "findGap", "(II)V"⟩
abbrev cX0_lets : ByteArray := prog_1_method_11_code
def yX0_lets : MethodName := ⟨RX0, "lets", "(II)Z"⟩
abbrev cX0_between : ByteArray := prog_1_method_35_code
def yX0_between : MethodName := ⟨RX0, "between", "(II)I"⟩
abbrev cX0_peakOf : ByteArray := prog_1_method_37_code
def yX0_peakOf : MethodName := ⟨RX0, "peakOf", "(IIII)I"⟩
abbrev cX0_oftenIn : ByteArray := prog_1_method_38_code
def yX0_oftenIn : MethodName := ⟨RX0, "oftenIn", "(II)I"⟩
abbrev cX0_agreeTold : ByteArray := prog_1_method_40_code
def yX0_agreeTold : MethodName := ⟨RX0, "agreeTold", "(IIIII)I"⟩
abbrev cX0_divisor : ByteArray := prog_1_method_39_code
def yX0_divisor : MethodName := ⟨RX0, "divisor", "(JJ)J"⟩
abbrev cX0_nextAt : ByteArray := prog_1_method_41_code
def yX0_nextAt : MethodName := ⟨RX0, "nextAt", "(I)I"⟩
abbrev cX0_publishIt : ByteArray := prog_1_method_42_code
def yX0_publishIt : MethodName := ⟨RX0, "publishIt", "(II)I"⟩
abbrev cX0_refuse : ByteArray := prog_1_method_44_code
def yX0_refuse : MethodName := ⟨RX0, "refuse", "(I)I"⟩
abbrev cX0_post : ByteArray := prog_1_method_58_code
def yX0_post : MethodName := ⟨RX0, "post", "(I)I"⟩
abbrev cX0_moved : ByteArray := prog_1_method_59_code
def yX0_moved : MethodName := ⟨RX0, "moved", "(III)I"⟩
abbrev cX0_zeroAt : ByteArray := prog_1_method_60_code
def yX0_zeroAt : MethodName := ⟨RX0, "zeroAt", "(III)I"⟩
abbrev cX0_actFar : ByteArray := prog_1_method_46_code
def yX0_actFar : MethodName := ⟨RX0, "actFar", "(IIIIII)I"⟩
abbrev cX0_height : ByteArray := prog_1_method_61_code
def yX0_height : MethodName := ⟨RX0, "height", "(IIII)I"⟩
abbrev cX0_strike : ByteArray := prog_1_method_62_code
def yX0_strike : MethodName := ⟨RX0, "strike", "(I)I"⟩
abbrev cX0_isStruck : ByteArray := prog_1_method_63_code
def yX0_isStruck : MethodName := ⟨RX0, "isStruck", "(II)I"⟩
abbrev cX0_heightAt : ByteArray := prog_1_method_64_code
def yX0_heightAt : MethodName := ⟨RX0, "heightAt", "(III)I"⟩
abbrev cX0_measure : ByteArray := prog_1_method_65_code
def yX0_measure : MethodName := ⟨RX0, "measure", "(IIII)I"⟩
abbrev cX0_drop : ByteArray := prog_1_method_66_code
def yX0_drop : MethodName := ⟨RX0, "drop", "(I)I"⟩
abbrev cX0_counts : ByteArray := prog_1_method_67_code
def yX0_counts : MethodName := ⟨RX0, "counts", "(II)I"⟩
abbrev cX0_feed : ByteArray := prog_1_method_68_code
def yX0_feed : MethodName := ⟨RX0, "feed", "(IJ)I"⟩
abbrev cX0_feedIt : ByteArray := prog_1_method_56_code
def yX0_feedIt : MethodName := ⟨RX0, "feedIt", "(IJ)I"⟩
abbrev cX0_standard : ByteArray := prog_1_method_69_code
def yX0_standard : MethodName := ⟨RX0, "standard", "(II)I"⟩
abbrev cX0_low : ByteArray := prog_1_method_70_code
def yX0_low : MethodName := ⟨RX0, "low", "(II)I"⟩
abbrev cX0_stretch : ByteArray := prog_1_method_71_code
def yX0_stretch : MethodName := ⟨RX0, "stretch", "(II)I"⟩
abbrev cX0_points : ByteArray := prog_1_method_72_code
def yX0_points : MethodName := ⟨RX0, "points", "(III)I"⟩
abbrev cX0_point : ByteArray := prog_1_method_73_code
def yX0_point : MethodName := ⟨RX0, "point", "(IIIII)I"⟩
abbrev cX0_flowAt : ByteArray := prog_1_method_74_code
def yX0_flowAt : MethodName := ⟨RX0, "flowAt", "(III)I"⟩
abbrev cX0_under : ByteArray := prog_1_method_75_code
def yX0_under : MethodName := ⟨RX0, "under", "(IIIII)I"⟩
abbrev cX0_flowOf : ByteArray := prog_1_method_76_code
def yX0_flowOf : MethodName := ⟨RX0, "flowOf", "(IIII)I"⟩
abbrev cX0_base : ByteArray := prog_1_method_77_code
def yX0_base : MethodName := ⟨RX0, "base", "(IIII)I"⟩
abbrev cX0_breaks : ByteArray := prog_1_method_78_code
def yX0_breaks : MethodName := ⟨RX0, "breaks", "(II)I"⟩
abbrev cX0_shift : ByteArray := prog_1_method_79_code
def yX0_shift : MethodName := ⟨RX0, "shift", "(II)I"⟩
abbrev cX0_put : ByteArray := prog_1_method_80_code
def yX0_put : MethodName := ⟨RX0, "put", "(I)I"⟩
abbrev cX0_judge : ByteArray := prog_1_method_81_code
def yX0_judge : MethodName := ⟨RX0, "judge", "(I)I"⟩
abbrev cX0_beside : ByteArray := prog_1_method_82_code
def yX0_beside : MethodName := ⟨RX0, "beside", "(II)I"⟩
abbrev cX0_gap : ByteArray := prog_1_method_83_code
def yX0_gap : MethodName := ⟨RX0, "gap", "(III)I"⟩
abbrev cX0_peak : ByteArray := prog_1_method_84_code
def yX0_peak : MethodName := ⟨RX0, "peak", "(IIII)I"⟩
abbrev cX0_often : ByteArray := prog_1_method_85_code
def yX0_often : MethodName := ⟨RX0, "often", "(II)I"⟩
abbrev cX0_agree : ByteArray := prog_1_method_86_code
def yX0_agree : MethodName := ⟨RX0, "agree", "(IIIII)I"⟩
abbrev cX0_next : ByteArray := prog_1_method_87_code
def yX0_next : MethodName := ⟨RX0, "next", "(I)I"⟩
abbrev cX0_publish : ByteArray := prog_1_method_88_code
def yX0_publish : MethodName := ⟨RX0, "publish", "(II)I"⟩
abbrev cX0_published : ByteArray := prog_1_method_89_code
def yX0_published : MethodName := ⟨RX0, "published", "(II)I"⟩
abbrev cX0_mend : ByteArray := prog_1_method_90_code
def yX0_mend : MethodName := ⟨RX0, "mend", "()I"⟩
abbrev cX0_limit : ByteArray := prog_1_method_91_code
def yX0_limit : MethodName := ⟨RX0, "limit", "(I)I"⟩
abbrev cX0_count : ByteArray := prog_1_method_92_code
def yX0_count : MethodName := ⟨RX0, "count", "(I)I"⟩
theorem q91 : (Jvm.Cond.initialized "RiverGauge") ∈ lw_all := lw_g (lw_at lw_m1 1 rfl) rfl
theorem q127 : (Jvm.Cond.instantiable "RiverGauge" (48 : Nat)) ∈ lw_all := lw_g (lw_at lw_m1 37 rfl) rfl
theorem q129 : (Jvm.Cond.instanceMethod ({ cls := "RiverGauge", name := "<init>", desc := "()V" } : Jvm.MethodName)) ∈ lw_all := lw_g (lw_at lw_m1 39 rfl) rfl
theorem q130 : (Jvm.Cond.code ({ cls := "RiverGauge", name := "<init>", desc := "()V" } : Jvm.MethodName) prog_1_method_7_code (1 : Nat) (Option.none : Option Jvm.ClassFile.FieldType)) ∈ lw_all := lw_g (lw_at lw_m1 40 rfl) rfl
theorem q131 : (Jvm.Cond.methodLink "RiverGauge" (23 : Nat) ({ cls := "java/lang/Object", name := "<init>", desc := "()V" } : Jvm.MethodName)) ∈ lw_all := lw_g (lw_at lw_m1 41 rfl) rfl
theorem q134 : (Jvm.Cond.classLink "RiverGauge" (32 : Nat) "RiverGauge$Zero") ∈ lw_all := lw_g (lw_at lw_m1 44 rfl) rfl
theorem q136 : (Jvm.Cond.classLink "RiverGauge" (38 : Nat) "RiverGauge$Height") ∈ lw_all := lw_g (lw_at lw_m1 46 rfl) rfl
theorem q138 : (Jvm.Cond.classLink "RiverGauge" (44 : Nat) "RiverGauge$Flow") ∈ lw_all := lw_g (lw_at lw_m1 48 rfl) rfl
theorem q140 : (Jvm.Cond.classLink "RiverGauge" (50 : Nat) "RiverGauge$Standard") ∈ lw_all := lw_g (lw_at lw_m1 50 rfl) rfl
theorem q142 : (Jvm.Cond.classLink "RiverGauge" (56 : Nat) "RiverGauge$Cover") ∈ lw_all := lw_g (lw_at lw_m1 52 rfl) rfl
theorem q144 : (Jvm.Cond.classLink "RiverGauge" (65 : Nat) "[[I") ∈ lw_all := lw_g (lw_at lw_m1 54 rfl) rfl
theorem q146 : (Jvm.Cond.classLink "RiverGauge" (73 : Nat) "RiverGauge$Base") ∈ lw_all := lw_g (lw_at lw_m1 56 rfl) rfl
theorem q148 : (Jvm.Cond.stringRef "RiverGauge" (105 : Nat) "dmrkabghnfwxi") ∈ lw_tbl := lw_at lw_m1 58 rfl
theorem q149 : (Jvm.Cond.methodLink "RiverGauge" (107 : Nat) ({ cls := "java/lang/String", name := "length", desc := "()I" } : Jvm.MethodName)) ∈ lw_all := lw_g (lw_at lw_m1 59 rfl) rfl
theorem q159 : (Jvm.Cond.fieldLink "RiverGauge" (154 : Nat) "RiverGauge" "now" "I") ∈ lw_all := lw_g (lw_at lw_m1 69 rfl) rfl
theorem q160 : (Jvm.Cond.fieldLink "RiverGauge" (389 : Nat) "RiverGauge" "postMany" "I") ∈ lw_all := lw_g (lw_at lw_m1 70 rfl) rfl
theorem q161 : (Jvm.Cond.fieldLink "RiverGauge" (28 : Nat) "RiverGauge" "firstZeros" "[I") ∈ lw_all := lw_g (lw_at lw_m1 71 rfl) rfl
theorem q162 : (Jvm.Cond.fieldLink "RiverGauge" (34 : Nat) "RiverGauge" "zeros" "[LRiverGauge$Zero;") ∈ lw_all := lw_g (lw_at lw_m1 72 rfl) rfl
theorem q163 : (Jvm.Cond.fieldLink "RiverGauge" (126 : Nat) "RiverGauge" "zeroMany" "I") ∈ lw_all := lw_g (lw_at lw_m1 73 rfl) rfl
theorem q164 : (Jvm.Cond.fieldLink "RiverGauge" (40 : Nat) "RiverGauge" "heights" "[LRiverGauge$Height;") ∈ lw_all := lw_g (lw_at lw_m1 74 rfl) rfl
theorem q165 : (Jvm.Cond.fieldLink "RiverGauge" (171 : Nat) "RiverGauge" "heightMany" "I") ∈ lw_all := lw_g (lw_at lw_m1 75 rfl) rfl
theorem q166 : (Jvm.Cond.fieldLink "RiverGauge" (46 : Nat) "RiverGauge" "flows" "[LRiverGauge$Flow;") ∈ lw_all := lw_g (lw_at lw_m1 76 rfl) rfl
theorem q167 : (Jvm.Cond.fieldLink "RiverGauge" (258 : Nat) "RiverGauge" "flowMany" "I") ∈ lw_all := lw_g (lw_at lw_m1 77 rfl) rfl
theorem q168 : (Jvm.Cond.fieldLink "RiverGauge" (52 : Nat) "RiverGauge" "standards" "[LRiverGauge$Standard;") ∈ lw_all := lw_g (lw_at lw_m1 78 rfl) rfl
theorem q169 : (Jvm.Cond.fieldLink "RiverGauge" (142 : Nat) "RiverGauge" "standardMany" "I") ∈ lw_all := lw_g (lw_at lw_m1 79 rfl) rfl
theorem q170 : (Jvm.Cond.fieldLink "RiverGauge" (58 : Nat) "RiverGauge" "covers" "[LRiverGauge$Cover;") ∈ lw_all := lw_g (lw_at lw_m1 80 rfl) rfl
theorem q171 : (Jvm.Cond.fieldLink "RiverGauge" (284 : Nat) "RiverGauge" "coverMany" "I") ∈ lw_all := lw_g (lw_at lw_m1 81 rfl) rfl
theorem q172 : (Jvm.Cond.fieldLink "RiverGauge" (62 : Nat) "RiverGauge" "lows" "[I") ∈ lw_all := lw_g (lw_at lw_m1 82 rfl) rfl
theorem q173 : (Jvm.Cond.fieldLink "RiverGauge" (67 : Nat) "RiverGauge" "stretches" "[[I") ∈ lw_all := lw_g (lw_at lw_m1 83 rfl) rfl
theorem q174 : (Jvm.Cond.fieldLink "RiverGauge" (70 : Nat) "RiverGauge" "stretchMany" "[I") ∈ lw_all := lw_g (lw_at lw_m1 84 rfl) rfl
theorem q175 : (Jvm.Cond.fieldLink "RiverGauge" (75 : Nat) "RiverGauge" "bases" "[LRiverGauge$Base;") ∈ lw_all := lw_g (lw_at lw_m1 85 rfl) rfl
theorem q176 : (Jvm.Cond.fieldLink "RiverGauge" (79 : Nat) "RiverGauge" "neighbours" "[I") ∈ lw_all := lw_g (lw_at lw_m1 86 rfl) rfl
theorem q177 : (Jvm.Cond.fieldLink "RiverGauge" (82 : Nat) "RiverGauge" "tape" "[B") ∈ lw_all := lw_g (lw_at lw_m1 87 rfl) rfl
theorem q178 : (Jvm.Cond.fieldLink "RiverGauge" (488 : Nat) "RiverGauge" "tapeMany" "I") ∈ lw_all := lw_g (lw_at lw_m1 88 rfl) rfl
theorem q179 : (Jvm.Cond.fieldLink "RiverGauge" (86 : Nat) "RiverGauge" "row" "[B") ∈ lw_all := lw_g (lw_at lw_m1 89 rfl) rfl
theorem q180 : (Jvm.Cond.fieldLink "RiverGauge" (372 : Nat) "RiverGauge" "rowMany" "I") ∈ lw_all := lw_g (lw_at lw_m1 90 rfl) rfl
theorem q181 : (Jvm.Cond.fieldLink "RiverGauge" (89 : Nat) "RiverGauge" "pubPost" "[I") ∈ lw_all := lw_g (lw_at lw_m1 91 rfl) rfl
theorem q182 : (Jvm.Cond.fieldLink "RiverGauge" (92 : Nat) "RiverGauge" "pubTime" "[I") ∈ lw_all := lw_g (lw_at lw_m1 92 rfl) rfl
theorem q183 : (Jvm.Cond.fieldLink "RiverGauge" (95 : Nat) "RiverGauge" "pubFlow" "[I") ∈ lw_all := lw_g (lw_at lw_m1 93 rfl) rfl
theorem q184 : (Jvm.Cond.fieldLink "RiverGauge" (415 : Nat) "RiverGauge" "pubMany" "I") ∈ lw_all := lw_g (lw_at lw_m1 94 rfl) rfl
theorem q185 : (Jvm.Cond.fieldLink "RiverGauge" (98 : Nat) "RiverGauge" "limit" "I") ∈ lw_all := lw_g (lw_at lw_m1 95 rfl) rfl
theorem q186 : (Jvm.Cond.fieldLink "RiverGauge" (102 : Nat) "RiverGauge" "refused" "[I") ∈ lw_all := lw_g (lw_at lw_m1 96 rfl) rfl
theorem q187 : (Jvm.Cond.fieldLink "RiverGauge" (113 : Nat) "RiverGauge" "letters" "[I") ∈ lw_all := lw_g (lw_at lw_m1 97 rfl) rfl
theorem q188 : (Jvm.Cond.fieldLink "RiverGauge" (220 : Nat) "RiverGauge" "kept" "LRiverGauge$Curve;") ∈ lw_all := lw_g (lw_at lw_m1 98 rfl) rfl
theorem q189 : (Jvm.Cond.fieldLink "RiverGauge" (227 : Nat) "RiverGauge" "keptPost" "I") ∈ lw_all := lw_g (lw_at lw_m1 99 rfl) rfl
theorem q190 : (Jvm.Cond.fieldLink "RiverGauge" (230 : Nat) "RiverGauge" "keptFrom" "I") ∈ lw_all := lw_g (lw_at lw_m1 100 rfl) rfl
theorem q191 : (Jvm.Cond.fieldLink "RiverGauge" (233 : Nat) "RiverGauge" "keptTo" "I") ∈ lw_all := lw_g (lw_at lw_m1 101 rfl) rfl
theorem q192 : (Jvm.Cond.fieldLink "RiverGauge" (236 : Nat) "RiverGauge" "keptOn" "I") ∈ lw_all := lw_g (lw_at lw_m1 102 rfl) rfl
theorem q193 : (Jvm.Cond.fieldLink "RiverGauge" (224 : Nat) "RiverGauge" "keptOther" "LRiverGauge$Curve;") ∈ lw_all := lw_g (lw_at lw_m1 103 rfl) rfl
theorem q194 : (Jvm.Cond.fieldLink "RiverGauge" (239 : Nat) "RiverGauge" "otherPost" "I") ∈ lw_all := lw_g (lw_at lw_m1 104 rfl) rfl
theorem q195 : (Jvm.Cond.fieldLink "RiverGauge" (242 : Nat) "RiverGauge" "otherFrom" "I") ∈ lw_all := lw_g (lw_at lw_m1 105 rfl) rfl
theorem q196 : (Jvm.Cond.fieldLink "RiverGauge" (245 : Nat) "RiverGauge" "otherTo" "I") ∈ lw_all := lw_g (lw_at lw_m1 106 rfl) rfl
theorem q197 : (Jvm.Cond.fieldLink "RiverGauge" (248 : Nat) "RiverGauge" "otherOn" "I") ∈ lw_all := lw_g (lw_at lw_m1 107 rfl) rfl
theorem q198 : (Jvm.Cond.fieldLink "RiverGauge" (116 : Nat) "RiverGauge" "measured" "[LRiverGauge$Flow;") ∈ lw_all := lw_g (lw_at lw_m1 108 rfl) rfl
theorem q199 : (Jvm.Cond.fieldLink "RiverGauge" (119 : Nat) "RiverGauge" "measuredHeight" "[I") ∈ lw_all := lw_g (lw_at lw_m1 109 rfl) rfl
theorem q200 : (Jvm.Cond.fieldLink "RiverGauge" (332 : Nat) "RiverGauge" "measuredMany" "I") ∈ lw_all := lw_g (lw_at lw_m1 110 rfl) rfl
theorem q201 : (Jvm.Cond.fieldLink "RiverGauge" (122 : Nat) "RiverGauge" "goes" "[Z") ∈ lw_all := lw_g (lw_at lw_m1 111 rfl) rfl
theorem q202 : (Jvm.Cond.fieldLink "RiverGauge" (354 : Nat) "RiverGauge" "fewest" "I") ∈ lw_all := lw_g (lw_at lw_m1 112 rfl) rfl
theorem q203 : (Jvm.Cond.fieldLink "RiverGauge" (357 : Nat) "RiverGauge" "rivals" "I") ∈ lw_all := lw_g (lw_at lw_m1 113 rfl) rfl
theorem q204 : (Jvm.Cond.fieldLink "RiverGauge" (366 : Nat) "RiverGauge" "toldSet" "I") ∈ lw_all := lw_g (lw_at lw_m1 114 rfl) rfl
theorem q205 : (Jvm.Cond.fieldLink "RiverGauge" (379 : Nat) "RiverGauge" "gapFrom" "I") ∈ lw_all := lw_g (lw_at lw_m1 115 rfl) rfl
theorem q206 : (Jvm.Cond.fieldLink "RiverGauge" (382 : Nat) "RiverGauge" "gapTo" "I") ∈ lw_all := lw_g (lw_at lw_m1 116 rfl) rfl
theorem q207 : (Jvm.Cond.lays "RiverGauge" "RiverGauge" "now" "I") ∈ lw_all := lw_g (lw_at lw_m1 117 rfl) rfl
theorem q208 : (Jvm.Cond.soleField "RiverGauge" "now") ∈ lw_all := lw_g (lw_at lw_m1 118 rfl) rfl
theorem q209 : (Jvm.Cond.lays "RiverGauge" "RiverGauge" "postMany" "I") ∈ lw_all := lw_g (lw_at lw_m1 119 rfl) rfl
theorem q210 : (Jvm.Cond.soleField "RiverGauge" "postMany") ∈ lw_all := lw_g (lw_at lw_m1 120 rfl) rfl
theorem q211 : (Jvm.Cond.laysFinal "RiverGauge" "RiverGauge" "firstZeros" "[I") ∈ lw_all := lw_g (lw_at lw_m1 121 rfl) rfl
theorem q212 : (Jvm.Cond.soleField "RiverGauge" "firstZeros") ∈ lw_all := lw_g (lw_at lw_m1 122 rfl) rfl
theorem q213 : (Jvm.Cond.laysFinal "RiverGauge" "RiverGauge" "zeros" "[LRiverGauge$Zero;") ∈ lw_all := lw_g (lw_at lw_m1 123 rfl) rfl
theorem q214 : (Jvm.Cond.soleField "RiverGauge" "zeros") ∈ lw_all := lw_g (lw_at lw_m1 124 rfl) rfl
theorem q215 : (Jvm.Cond.lays "RiverGauge" "RiverGauge" "zeroMany" "I") ∈ lw_all := lw_g (lw_at lw_m1 125 rfl) rfl
theorem q216 : (Jvm.Cond.soleField "RiverGauge" "zeroMany") ∈ lw_all := lw_g (lw_at lw_m1 126 rfl) rfl
theorem q217 : (Jvm.Cond.laysFinal "RiverGauge" "RiverGauge" "heights" "[LRiverGauge$Height;") ∈ lw_all := lw_g (lw_at lw_m1 127 rfl) rfl
theorem q218 : (Jvm.Cond.soleField "RiverGauge" "heights") ∈ lw_all := lw_g (lw_at lw_m1 128 rfl) rfl
theorem q219 : (Jvm.Cond.lays "RiverGauge" "RiverGauge" "heightMany" "I") ∈ lw_all := lw_g (lw_at lw_m1 129 rfl) rfl
theorem q220 : (Jvm.Cond.soleField "RiverGauge" "heightMany") ∈ lw_all := lw_g (lw_at lw_m1 130 rfl) rfl
theorem q221 : (Jvm.Cond.laysFinal "RiverGauge" "RiverGauge" "flows" "[LRiverGauge$Flow;") ∈ lw_all := lw_g (lw_at lw_m1 131 rfl) rfl
theorem q222 : (Jvm.Cond.soleField "RiverGauge" "flows") ∈ lw_all := lw_g (lw_at lw_m1 132 rfl) rfl
theorem q223 : (Jvm.Cond.lays "RiverGauge" "RiverGauge" "flowMany" "I") ∈ lw_all := lw_g (lw_at lw_m1 133 rfl) rfl
theorem q224 : (Jvm.Cond.soleField "RiverGauge" "flowMany") ∈ lw_all := lw_g (lw_at lw_m1 134 rfl) rfl
theorem q225 : (Jvm.Cond.laysFinal "RiverGauge" "RiverGauge" "standards" "[LRiverGauge$Standard;") ∈ lw_all := lw_g (lw_at lw_m1 135 rfl) rfl
theorem q226 : (Jvm.Cond.soleField "RiverGauge" "standards") ∈ lw_all := lw_g (lw_at lw_m1 136 rfl) rfl
theorem q227 : (Jvm.Cond.lays "RiverGauge" "RiverGauge" "standardMany" "I") ∈ lw_all := lw_g (lw_at lw_m1 137 rfl) rfl
theorem q228 : (Jvm.Cond.soleField "RiverGauge" "standardMany") ∈ lw_all := lw_g (lw_at lw_m1 138 rfl) rfl
theorem q229 : (Jvm.Cond.laysFinal "RiverGauge" "RiverGauge" "covers" "[LRiverGauge$Cover;") ∈ lw_all := lw_g (lw_at lw_m1 139 rfl) rfl
theorem q230 : (Jvm.Cond.soleField "RiverGauge" "covers") ∈ lw_all := lw_g (lw_at lw_m1 140 rfl) rfl
theorem q231 : (Jvm.Cond.lays "RiverGauge" "RiverGauge" "coverMany" "I") ∈ lw_all := lw_g (lw_at lw_m1 141 rfl) rfl
theorem q232 : (Jvm.Cond.soleField "RiverGauge" "coverMany") ∈ lw_all := lw_g (lw_at lw_m1 142 rfl) rfl
theorem q233 : (Jvm.Cond.laysFinal "RiverGauge" "RiverGauge" "lows" "[I") ∈ lw_all := lw_g (lw_at lw_m1 143 rfl) rfl
theorem q234 : (Jvm.Cond.soleField "RiverGauge" "lows") ∈ lw_all := lw_g (lw_at lw_m1 144 rfl) rfl
theorem q235 : (Jvm.Cond.laysFinal "RiverGauge" "RiverGauge" "stretches" "[[I") ∈ lw_all := lw_g (lw_at lw_m1 145 rfl) rfl
theorem q236 : (Jvm.Cond.soleField "RiverGauge" "stretches") ∈ lw_all := lw_g (lw_at lw_m1 146 rfl) rfl
theorem q237 : (Jvm.Cond.laysFinal "RiverGauge" "RiverGauge" "stretchMany" "[I") ∈ lw_all := lw_g (lw_at lw_m1 147 rfl) rfl
theorem q238 : (Jvm.Cond.soleField "RiverGauge" "stretchMany") ∈ lw_all := lw_g (lw_at lw_m1 148 rfl) rfl
theorem q239 : (Jvm.Cond.laysFinal "RiverGauge" "RiverGauge" "bases" "[LRiverGauge$Base;") ∈ lw_all := lw_g (lw_at lw_m1 149 rfl) rfl
theorem q240 : (Jvm.Cond.soleField "RiverGauge" "bases") ∈ lw_all := lw_g (lw_at lw_m1 150 rfl) rfl
theorem q241 : (Jvm.Cond.laysFinal "RiverGauge" "RiverGauge" "neighbours" "[I") ∈ lw_all := lw_g (lw_at lw_m1 151 rfl) rfl
theorem q242 : (Jvm.Cond.soleField "RiverGauge" "neighbours") ∈ lw_all := lw_g (lw_at lw_m1 152 rfl) rfl
theorem q243 : (Jvm.Cond.laysFinal "RiverGauge" "RiverGauge" "tape" "[B") ∈ lw_all := lw_g (lw_at lw_m1 153 rfl) rfl
theorem q244 : (Jvm.Cond.soleField "RiverGauge" "tape") ∈ lw_all := lw_g (lw_at lw_m1 154 rfl) rfl
theorem q245 : (Jvm.Cond.lays "RiverGauge" "RiverGauge" "tapeMany" "I") ∈ lw_all := lw_g (lw_at lw_m1 155 rfl) rfl
theorem q246 : (Jvm.Cond.soleField "RiverGauge" "tapeMany") ∈ lw_all := lw_g (lw_at lw_m1 156 rfl) rfl
theorem q247 : (Jvm.Cond.laysFinal "RiverGauge" "RiverGauge" "row" "[B") ∈ lw_all := lw_g (lw_at lw_m1 157 rfl) rfl
theorem q248 : (Jvm.Cond.soleField "RiverGauge" "row") ∈ lw_all := lw_g (lw_at lw_m1 158 rfl) rfl
theorem q249 : (Jvm.Cond.lays "RiverGauge" "RiverGauge" "rowMany" "I") ∈ lw_all := lw_g (lw_at lw_m1 159 rfl) rfl
theorem q250 : (Jvm.Cond.soleField "RiverGauge" "rowMany") ∈ lw_all := lw_g (lw_at lw_m1 160 rfl) rfl
theorem q251 : (Jvm.Cond.laysFinal "RiverGauge" "RiverGauge" "pubPost" "[I") ∈ lw_all := lw_g (lw_at lw_m1 161 rfl) rfl
theorem q252 : (Jvm.Cond.soleField "RiverGauge" "pubPost") ∈ lw_all := lw_g (lw_at lw_m1 162 rfl) rfl
theorem q253 : (Jvm.Cond.laysFinal "RiverGauge" "RiverGauge" "pubTime" "[I") ∈ lw_all := lw_g (lw_at lw_m1 163 rfl) rfl
theorem q254 : (Jvm.Cond.soleField "RiverGauge" "pubTime") ∈ lw_all := lw_g (lw_at lw_m1 164 rfl) rfl
theorem q255 : (Jvm.Cond.laysFinal "RiverGauge" "RiverGauge" "pubFlow" "[I") ∈ lw_all := lw_g (lw_at lw_m1 165 rfl) rfl
theorem q256 : (Jvm.Cond.soleField "RiverGauge" "pubFlow") ∈ lw_all := lw_g (lw_at lw_m1 166 rfl) rfl
theorem q257 : (Jvm.Cond.lays "RiverGauge" "RiverGauge" "pubMany" "I") ∈ lw_all := lw_g (lw_at lw_m1 167 rfl) rfl
theorem q258 : (Jvm.Cond.soleField "RiverGauge" "pubMany") ∈ lw_all := lw_g (lw_at lw_m1 168 rfl) rfl
theorem q259 : (Jvm.Cond.lays "RiverGauge" "RiverGauge" "limit" "I") ∈ lw_all := lw_g (lw_at lw_m1 169 rfl) rfl
theorem q260 : (Jvm.Cond.soleField "RiverGauge" "limit") ∈ lw_all := lw_g (lw_at lw_m1 170 rfl) rfl
theorem q261 : (Jvm.Cond.laysFinal "RiverGauge" "RiverGauge" "refused" "[I") ∈ lw_all := lw_g (lw_at lw_m1 171 rfl) rfl
theorem q262 : (Jvm.Cond.soleField "RiverGauge" "refused") ∈ lw_all := lw_g (lw_at lw_m1 172 rfl) rfl
theorem q263 : (Jvm.Cond.laysFinal "RiverGauge" "RiverGauge" "letters" "[I") ∈ lw_all := lw_g (lw_at lw_m1 173 rfl) rfl
theorem q264 : (Jvm.Cond.soleField "RiverGauge" "letters") ∈ lw_all := lw_g (lw_at lw_m1 174 rfl) rfl
theorem q265 : (Jvm.Cond.lays "RiverGauge" "RiverGauge" "kept" "LRiverGauge$Curve;") ∈ lw_all := lw_g (lw_at lw_m1 175 rfl) rfl
theorem q266 : (Jvm.Cond.soleField "RiverGauge" "kept") ∈ lw_all := lw_g (lw_at lw_m1 176 rfl) rfl
theorem q267 : (Jvm.Cond.lays "RiverGauge" "RiverGauge" "keptPost" "I") ∈ lw_all := lw_g (lw_at lw_m1 177 rfl) rfl
theorem q268 : (Jvm.Cond.soleField "RiverGauge" "keptPost") ∈ lw_all := lw_g (lw_at lw_m1 178 rfl) rfl
theorem q269 : (Jvm.Cond.lays "RiverGauge" "RiverGauge" "keptFrom" "I") ∈ lw_all := lw_g (lw_at lw_m1 179 rfl) rfl
theorem q270 : (Jvm.Cond.soleField "RiverGauge" "keptFrom") ∈ lw_all := lw_g (lw_at lw_m1 180 rfl) rfl
theorem q271 : (Jvm.Cond.lays "RiverGauge" "RiverGauge" "keptTo" "I") ∈ lw_all := lw_g (lw_at lw_m1 181 rfl) rfl
theorem q272 : (Jvm.Cond.soleField "RiverGauge" "keptTo") ∈ lw_all := lw_g (lw_at lw_m1 182 rfl) rfl
theorem q273 : (Jvm.Cond.lays "RiverGauge" "RiverGauge" "keptOn" "I") ∈ lw_all := lw_g (lw_at lw_m1 183 rfl) rfl
theorem q274 : (Jvm.Cond.soleField "RiverGauge" "keptOn") ∈ lw_all := lw_g (lw_at lw_m1 184 rfl) rfl
theorem q275 : (Jvm.Cond.lays "RiverGauge" "RiverGauge" "keptOther" "LRiverGauge$Curve;") ∈ lw_all := lw_g (lw_at lw_m1 185 rfl) rfl
theorem q276 : (Jvm.Cond.soleField "RiverGauge" "keptOther") ∈ lw_all := lw_g (lw_at lw_m1 186 rfl) rfl
theorem q277 : (Jvm.Cond.lays "RiverGauge" "RiverGauge" "otherPost" "I") ∈ lw_all := lw_g (lw_at lw_m1 187 rfl) rfl
theorem q278 : (Jvm.Cond.soleField "RiverGauge" "otherPost") ∈ lw_all := lw_g (lw_at lw_m1 188 rfl) rfl
theorem q279 : (Jvm.Cond.lays "RiverGauge" "RiverGauge" "otherFrom" "I") ∈ lw_all := lw_g (lw_at lw_m1 189 rfl) rfl
theorem q280 : (Jvm.Cond.soleField "RiverGauge" "otherFrom") ∈ lw_all := lw_g (lw_at lw_m1 190 rfl) rfl
theorem q281 : (Jvm.Cond.lays "RiverGauge" "RiverGauge" "otherTo" "I") ∈ lw_all := lw_g (lw_at lw_m1 191 rfl) rfl
theorem q282 : (Jvm.Cond.soleField "RiverGauge" "otherTo") ∈ lw_all := lw_g (lw_at lw_m1 192 rfl) rfl
theorem q283 : (Jvm.Cond.lays "RiverGauge" "RiverGauge" "otherOn" "I") ∈ lw_all := lw_g (lw_at lw_m1 193 rfl) rfl
theorem q284 : (Jvm.Cond.soleField "RiverGauge" "otherOn") ∈ lw_all := lw_g (lw_at lw_m1 194 rfl) rfl
theorem q285 : (Jvm.Cond.laysFinal "RiverGauge" "RiverGauge" "measured" "[LRiverGauge$Flow;") ∈ lw_all := lw_g (lw_at lw_m1 195 rfl) rfl
theorem q286 : (Jvm.Cond.soleField "RiverGauge" "measured") ∈ lw_all := lw_g (lw_at lw_m1 196 rfl) rfl
theorem q287 : (Jvm.Cond.laysFinal "RiverGauge" "RiverGauge" "measuredHeight" "[I") ∈ lw_all := lw_g (lw_at lw_m1 197 rfl) rfl
theorem q288 : (Jvm.Cond.soleField "RiverGauge" "measuredHeight") ∈ lw_all := lw_g (lw_at lw_m1 198 rfl) rfl
theorem q289 : (Jvm.Cond.lays "RiverGauge" "RiverGauge" "measuredMany" "I") ∈ lw_all := lw_g (lw_at lw_m1 199 rfl) rfl
theorem q290 : (Jvm.Cond.soleField "RiverGauge" "measuredMany") ∈ lw_all := lw_g (lw_at lw_m1 200 rfl) rfl
theorem q291 : (Jvm.Cond.laysFinal "RiverGauge" "RiverGauge" "goes" "[Z") ∈ lw_all := lw_g (lw_at lw_m1 201 rfl) rfl
theorem q292 : (Jvm.Cond.soleField "RiverGauge" "goes") ∈ lw_all := lw_g (lw_at lw_m1 202 rfl) rfl
theorem q293 : (Jvm.Cond.lays "RiverGauge" "RiverGauge" "fewest" "I") ∈ lw_all := lw_g (lw_at lw_m1 203 rfl) rfl
theorem q294 : (Jvm.Cond.soleField "RiverGauge" "fewest") ∈ lw_all := lw_g (lw_at lw_m1 204 rfl) rfl
theorem q295 : (Jvm.Cond.lays "RiverGauge" "RiverGauge" "rivals" "I") ∈ lw_all := lw_g (lw_at lw_m1 205 rfl) rfl
theorem q296 : (Jvm.Cond.soleField "RiverGauge" "rivals") ∈ lw_all := lw_g (lw_at lw_m1 206 rfl) rfl
theorem q297 : (Jvm.Cond.lays "RiverGauge" "RiverGauge" "toldSet" "I") ∈ lw_all := lw_g (lw_at lw_m1 207 rfl) rfl
theorem q298 : (Jvm.Cond.soleField "RiverGauge" "toldSet") ∈ lw_all := lw_g (lw_at lw_m1 208 rfl) rfl
theorem q299 : (Jvm.Cond.lays "RiverGauge" "RiverGauge" "gapFrom" "I") ∈ lw_all := lw_g (lw_at lw_m1 209 rfl) rfl
theorem q300 : (Jvm.Cond.soleField "RiverGauge" "gapFrom") ∈ lw_all := lw_g (lw_at lw_m1 210 rfl) rfl
theorem q301 : (Jvm.Cond.lays "RiverGauge" "RiverGauge" "gapTo" "I") ∈ lw_all := lw_g (lw_at lw_m1 211 rfl) rfl
theorem q302 : (Jvm.Cond.soleField "RiverGauge" "gapTo") ∈ lw_all := lw_g (lw_at lw_m1 212 rfl) rfl
theorem q303 : (Jvm.Cond.superclass "RiverGauge" "java/lang/Object") ∈ lw_all := lw_g (lw_at lw_m1 213 rfl) rfl
theorem q308 : (Jvm.Cond.instanceMethod ({ cls := "RiverGauge", name := "go", desc := "(I)I" } : Jvm.MethodName)) ∈ lw_all := lw_g (lw_at lw_m1 218 rfl) rfl
theorem q309 : (Jvm.Cond.selects "RiverGauge" ({ cls := "RiverGauge", name := "go", desc := "(I)I" } : Jvm.MethodName) ({ cls := "RiverGauge", name := "go", desc := "(I)I" } : Jvm.MethodName)) ∈ lw_all := lw_g (lw_at lw_m1 219 rfl) rfl
theorem q310 : (Jvm.Cond.code ({ cls := "RiverGauge", name := "go", desc := "(I)I" } : Jvm.MethodName) prog_1_method_57_code (2 : Nat) (Option.some Jvm.ClassFile.FieldType.int)) ∈ lw_all := lw_g (lw_at lw_m1 220 rfl) rfl
theorem q311 : (Jvm.Cond.methodLink "RiverGauge" (547 : Nat) ({ cls := "RiverGauge", name := "act", desc := "(IIIIII)I" } : Jvm.MethodName)) ∈ lw_all := lw_g (lw_at lw_m1 221 rfl) rfl
theorem q312 : (Jvm.Cond.privateMethod ({ cls := "RiverGauge", name := "act", desc := "(IIIIII)I" } : Jvm.MethodName)) ∈ lw_tbl := lw_at lw_m1 222 rfl
theorem q313 : (Jvm.Cond.instanceMethod ({ cls := "RiverGauge", name := "act", desc := "(IIIIII)I" } : Jvm.MethodName)) ∈ lw_all := lw_g (lw_at lw_m1 223 rfl) rfl
theorem q314 : (Jvm.Cond.codeWith ({ cls := "RiverGauge", name := "act", desc := "(IIIIII)I" } : Jvm.MethodName) prog_1_method_45_code (8 : Nat) (Option.some Jvm.ClassFile.FieldType.int) [((0 : Nat), (13 : Nat), (14 : Nat), (429 : Nat))]) ∈ lw_all := lw_g (lw_at lw_m1 224 rfl) rfl
theorem q315 : (Jvm.Cond.classLink "RiverGauge" (429 : Nat) "RiverGauge$Refusal") ∈ lw_all := lw_g (lw_at lw_m1 225 rfl) rfl
theorem q316 : (Jvm.Cond.methodLink "RiverGauge" (425 : Nat) ({ cls := "RiverGauge", name := "ofOffice", desc := "(IIIIII)I" } : Jvm.MethodName)) ∈ lw_all := lw_g (lw_at lw_m1 226 rfl) rfl
theorem q317 : (Jvm.Cond.privateMethod ({ cls := "RiverGauge", name := "ofOffice", desc := "(IIIIII)I" } : Jvm.MethodName)) ∈ lw_tbl := lw_at lw_m1 227 rfl
theorem q318 : (Jvm.Cond.instanceMethod ({ cls := "RiverGauge", name := "ofOffice", desc := "(IIIIII)I" } : Jvm.MethodName)) ∈ lw_all := lw_g (lw_at lw_m1 228 rfl) rfl
theorem q319 : (Jvm.Cond.code ({ cls := "RiverGauge", name := "ofOffice", desc := "(IIIIII)I" } : Jvm.MethodName) prog_1_method_47_code (7 : Nat) (Option.some Jvm.ClassFile.FieldType.int)) ∈ lw_all := lw_g (lw_at lw_m1 229 rfl) rfl
theorem q320 : (Jvm.Cond.methodLink "RiverGauge" (438 : Nat) ({ cls := "RiverGauge", name := "ofPosts", desc := "(IIII)I" } : Jvm.MethodName)) ∈ lw_all := lw_g (lw_at lw_m1 230 rfl) rfl
theorem q321 : (Jvm.Cond.privateMethod ({ cls := "RiverGauge", name := "ofPosts", desc := "(IIII)I" } : Jvm.MethodName)) ∈ lw_tbl := lw_at lw_m1 231 rfl
theorem q322 : (Jvm.Cond.instanceMethod ({ cls := "RiverGauge", name := "ofPosts", desc := "(IIII)I" } : Jvm.MethodName)) ∈ lw_all := lw_g (lw_at lw_m1 232 rfl) rfl
theorem q323 : (Jvm.Cond.code ({ cls := "RiverGauge", name := "ofPosts", desc := "(IIII)I" } : Jvm.MethodName) prog_1_method_48_code (5 : Nat) (Option.some Jvm.ClassFile.FieldType.int)) ∈ lw_all := lw_g (lw_at lw_m1 233 rfl) rfl
theorem q324 : (Jvm.Cond.methodLink "RiverGauge" (9 : Nat) ({ cls := "RiverGauge", name := "must", desc := "(ZI)V" } : Jvm.MethodName)) ∈ lw_all := lw_g (lw_at lw_m1 234 rfl) rfl
theorem q325 : (Jvm.Cond.static ({ cls := "RiverGauge", name := "must", desc := "(ZI)V" } : Jvm.MethodName)) ∈ lw_all := lw_g (lw_at lw_m1 235 rfl) rfl
theorem q326 : (Jvm.Cond.code ({ cls := "RiverGauge", name := "must", desc := "(ZI)V" } : Jvm.MethodName) prog_1_method_2_code (2 : Nat) (Option.none : Option Jvm.ClassFile.FieldType)) ∈ lw_all := lw_g (lw_at lw_m1 236 rfl) rfl
theorem q327 : (Jvm.Cond.classLink "RiverGauge" (1 : Nat) "RiverGauge$Refused") ∈ lw_all := lw_g (lw_at lw_m1 237 rfl) rfl
theorem q368 : (Jvm.Cond.methodLink "RiverGauge" (3 : Nat) ({ cls := "RiverGauge$Refused", name := "<init>", desc := "(I)V" } : Jvm.MethodName)) ∈ lw_all := lw_g (lw_at lw_m2 38 rfl) rfl
theorem q396 : (Jvm.Cond.methodLink "RiverGauge" (454 : Nat) ({ cls := "RiverGauge", name := "mustBe", desc := "(II)V" } : Jvm.MethodName)) ∈ lw_all := lw_g (lw_at lw_m2 66 rfl) rfl
theorem q397 : (Jvm.Cond.static ({ cls := "RiverGauge", name := "mustBe", desc := "(II)V" } : Jvm.MethodName)) ∈ lw_all := lw_g (lw_at lw_m2 67 rfl) rfl
theorem q398 : (Jvm.Cond.code ({ cls := "RiverGauge", name := "mustBe", desc := "(II)V" } : Jvm.MethodName) prog_1_method_4_code (2 : Nat) (Option.none : Option Jvm.ClassFile.FieldType)) ∈ lw_all := lw_g (lw_at lw_m2 68 rfl) rfl
theorem q399 : (Jvm.Cond.methodLink "RiverGauge" (13 : Nat) ({ cls := "RiverGauge", name := "in", desc := "(JJJ)Z" } : Jvm.MethodName)) ∈ lw_all := lw_g (lw_at lw_m2 69 rfl) rfl
theorem q400 : (Jvm.Cond.static ({ cls := "RiverGauge", name := "in", desc := "(JJJ)Z" } : Jvm.MethodName)) ∈ lw_all := lw_g (lw_at lw_m2 70 rfl) rfl
theorem q401 : (Jvm.Cond.code ({ cls := "RiverGauge", name := "in", desc := "(JJJ)Z" } : Jvm.MethodName) prog_1_method_1_code (6 : Nat) (Option.some Jvm.ClassFile.FieldType.boolean)) ∈ lw_all := lw_g (lw_at lw_m2 71 rfl) rfl
theorem q403 : (Jvm.Cond.methodLink "RiverGauge" (457 : Nat) ({ cls := "RiverGauge$Zero", name := "<init>", desc := "(IIII)V" } : Jvm.MethodName)) ∈ lw_all := lw_g (lw_at lw_m2 73 rfl) rfl
theorem q411 : (Jvm.Cond.fieldLinkNest "RiverGauge" (139 : Nat) "RiverGauge$Zero" "zero" "I" "RiverGauge") ∈ lw_tbl := lw_at lw_m2 81 rfl
theorem q413 : (Jvm.Cond.fieldLink "RiverGauge" (129 : Nat) "RiverGauge$Zero" "post" "I") ∈ lw_all := lw_g (lw_at lw_m2 83 rfl) rfl
theorem q415 : (Jvm.Cond.fieldLink "RiverGauge" (174 : Nat) "RiverGauge$Height" "post" "I") ∈ lw_all := lw_g (lw_at lw_m2 85 rfl) rfl
theorem q417 : (Jvm.Cond.fieldLink "RiverGauge" (214 : Nat) "RiverGauge$Flow" "post" "I") ∈ lw_all := lw_g (lw_at lw_m2 87 rfl) rfl
theorem q419 : (Jvm.Cond.fieldLink "RiverGauge" (287 : Nat) "RiverGauge$Cover" "post" "I") ∈ lw_all := lw_g (lw_at lw_m2 89 rfl) rfl
theorem q424 : (Jvm.Cond.fieldLink "RiverGauge" (136 : Nat) "RiverGauge$Zero" "time" "I") ∈ lw_all := lw_g (lw_at lw_m2 94 rfl) rfl
theorem q426 : (Jvm.Cond.fieldLink "RiverGauge" (175 : Nat) "RiverGauge$Height" "time" "I") ∈ lw_all := lw_g (lw_at lw_m2 96 rfl) rfl
theorem q428 : (Jvm.Cond.fieldLink "RiverGauge" (215 : Nat) "RiverGauge$Flow" "time" "I") ∈ lw_all := lw_g (lw_at lw_m2 98 rfl) rfl
theorem q430 : (Jvm.Cond.fieldLink "RiverGauge" (290 : Nat) "RiverGauge$Cover" "time" "I") ∈ lw_all := lw_g (lw_at lw_m2 100 rfl) rfl
theorem q441 : (Jvm.Cond.methodLink "RiverGauge" (460 : Nat) ({ cls := "RiverGauge", name := "stale", desc := "()V" } : Jvm.MethodName)) ∈ lw_all := lw_g (lw_at lw_m2 111 rfl) rfl
theorem q442 : (Jvm.Cond.privateMethod ({ cls := "RiverGauge", name := "stale", desc := "()V" } : Jvm.MethodName)) ∈ lw_tbl := lw_at lw_m2 112 rfl
theorem q443 : (Jvm.Cond.instanceMethod ({ cls := "RiverGauge", name := "stale", desc := "()V" } : Jvm.MethodName)) ∈ lw_all := lw_g (lw_at lw_m2 113 rfl) rfl
theorem q444 : (Jvm.Cond.code ({ cls := "RiverGauge", name := "stale", desc := "()V" } : Jvm.MethodName) prog_1_method_18_code (1 : Nat) (Option.none : Option Jvm.ClassFile.FieldType)) ∈ lw_all := lw_g (lw_at lw_m2 114 rfl) rfl
theorem q445 : (Jvm.Cond.methodLink "RiverGauge" (210 : Nat) ({ cls := "RiverGauge", name := "zeroOf", desc := "(III)I" } : Jvm.MethodName)) ∈ lw_all := lw_g (lw_at lw_m2 115 rfl) rfl
theorem q446 : (Jvm.Cond.privateMethod ({ cls := "RiverGauge", name := "zeroOf", desc := "(III)I" } : Jvm.MethodName)) ∈ lw_tbl := lw_at lw_m2 116 rfl
theorem q447 : (Jvm.Cond.instanceMethod ({ cls := "RiverGauge", name := "zeroOf", desc := "(III)I" } : Jvm.MethodName)) ∈ lw_all := lw_g (lw_at lw_m2 117 rfl) rfl
theorem q448 : (Jvm.Cond.code ({ cls := "RiverGauge", name := "zeroOf", desc := "(III)I" } : Jvm.MethodName) prog_1_method_8_code (8 : Nat) (Option.some Jvm.ClassFile.FieldType.int)) ∈ lw_all := lw_g (lw_at lw_m2 118 rfl) rfl
theorem q449 : (Jvm.Cond.methodLink "RiverGauge" (132 : Nat) ({ cls := "RiverGauge$Zero", name := "isKnown", desc := "(I)Z" } : Jvm.MethodName)) ∈ lw_all := lw_g (lw_at lw_m2 119 rfl) rfl
theorem q455 : (Jvm.Cond.methodLink "RiverGauge" (441 : Nat) ({ cls := "RiverGauge", name := "ofHeights", desc := "(IIIII)I" } : Jvm.MethodName)) ∈ lw_all := lw_g (lw_at lw_m2 125 rfl) rfl
theorem q456 : (Jvm.Cond.privateMethod ({ cls := "RiverGauge", name := "ofHeights", desc := "(IIIII)I" } : Jvm.MethodName)) ∈ lw_tbl := lw_at lw_m2 126 rfl
theorem q457 : (Jvm.Cond.instanceMethod ({ cls := "RiverGauge", name := "ofHeights", desc := "(IIIII)I" } : Jvm.MethodName)) ∈ lw_all := lw_g (lw_at lw_m2 127 rfl) rfl
theorem q458 : (Jvm.Cond.code ({ cls := "RiverGauge", name := "ofHeights", desc := "(IIIII)I" } : Jvm.MethodName) prog_1_method_49_code (6 : Nat) (Option.some Jvm.ClassFile.FieldType.int)) ∈ lw_all := lw_g (lw_at lw_m2 128 rfl) rfl
theorem q460 : (Jvm.Cond.methodLink "RiverGauge" (463 : Nat) ({ cls := "RiverGauge$Height", name := "<init>", desc := "(IIIII)V" } : Jvm.MethodName)) ∈ lw_all := lw_g (lw_at lw_m2 130 rfl) rfl
theorem q469 : (Jvm.Cond.fieldLinkNest "RiverGauge" (193 : Nat) "RiverGauge$Height" "kind" "I" "RiverGauge") ∈ lw_tbl := lw_at lw_m2 139 rfl
theorem q471 : (Jvm.Cond.fieldLinkNest "RiverGauge" (176 : Nat) "RiverGauge$Height" "read" "I" "RiverGauge") ∈ lw_tbl := lw_at lw_m2 141 rfl
theorem q483 : (Jvm.Cond.methodLink "RiverGauge" (466 : Nat) ({ cls := "RiverGauge$Height", name := "strike", desc := "(I)V" } : Jvm.MethodName)) ∈ lw_all := lw_g (lw_at lw_m2 153 rfl) rfl
theorem q490 : (Jvm.Cond.methodLink "RiverGauge" (469 : Nat) ({ cls := "RiverGauge", name := "mustBeTime", desc := "(I)V" } : Jvm.MethodName)) ∈ lw_all := lw_g (lw_at lw_m2 160 rfl) rfl
theorem q491 : (Jvm.Cond.static ({ cls := "RiverGauge", name := "mustBeTime", desc := "(I)V" } : Jvm.MethodName)) ∈ lw_all := lw_g (lw_at lw_m2 161 rfl) rfl
theorem q492 : (Jvm.Cond.code ({ cls := "RiverGauge", name := "mustBeTime", desc := "(I)V" } : Jvm.MethodName) prog_1_method_5_code (1 : Nat) (Option.none : Option Jvm.ClassFile.FieldType)) ∈ lw_all := lw_g (lw_at lw_m2 162 rfl) rfl
theorem q493 : (Jvm.Cond.constantLong "RiverGauge" (17 : Nat) (9999 : Int64)) ∈ lw_all := lw_g (lw_at lw_m2 163 rfl) rfl
theorem q494 : (Jvm.Cond.methodLink "RiverGauge" (19 : Nat) ({ cls := "RiverGauge", name := "within", desc := "(JJJ)V" } : Jvm.MethodName)) ∈ lw_all := lw_g (lw_at lw_m2 164 rfl) rfl
theorem q495 : (Jvm.Cond.static ({ cls := "RiverGauge", name := "within", desc := "(JJJ)V" } : Jvm.MethodName)) ∈ lw_all := lw_g (lw_at lw_m2 165 rfl) rfl
theorem q496 : (Jvm.Cond.code ({ cls := "RiverGauge", name := "within", desc := "(JJJ)V" } : Jvm.MethodName) prog_1_method_3_code (6 : Nat) (Option.none : Option Jvm.ClassFile.FieldType)) ∈ lw_all := lw_g (lw_at lw_m2 166 rfl) rfl
theorem q497 : (Jvm.Cond.methodLink "RiverGauge" (202 : Nat) ({ cls := "RiverGauge", name := "struckBy", desc := "(II)I" } : Jvm.MethodName)) ∈ lw_all := lw_g (lw_at lw_m2 167 rfl) rfl
theorem q498 : (Jvm.Cond.privateMethod ({ cls := "RiverGauge", name := "struckBy", desc := "(II)I" } : Jvm.MethodName)) ∈ lw_tbl := lw_at lw_m2 168 rfl
theorem q499 : (Jvm.Cond.instanceMethod ({ cls := "RiverGauge", name := "struckBy", desc := "(II)I" } : Jvm.MethodName)) ∈ lw_all := lw_g (lw_at lw_m2 169 rfl) rfl
theorem q500 : (Jvm.Cond.code ({ cls := "RiverGauge", name := "struckBy", desc := "(II)I" } : Jvm.MethodName) prog_1_method_13_code (6 : Nat) (Option.some Jvm.ClassFile.FieldType.int)) ∈ lw_all := lw_g (lw_at lw_m2 170 rfl) rfl
theorem q501 : (Jvm.Cond.methodLink "RiverGauge" (182 : Nat) ({ cls := "RiverGauge$Height", name := "isKnown", desc := "(I)Z" } : Jvm.MethodName)) ∈ lw_all := lw_g (lw_at lw_m2 171 rfl) rfl
theorem q504 : (Jvm.Cond.methodLink "RiverGauge" (183 : Nat) ({ cls := "RiverGauge$Height", name := "isStruckBy", desc := "(I)Z" } : Jvm.MethodName)) ∈ lw_all := lw_g (lw_at lw_m2 174 rfl) rfl
theorem q510 : (Jvm.Cond.methodLink "RiverGauge" (157 : Nat) ({ cls := "RiverGauge", name := "standardFor", desc := "(III)LRiverGauge$Standard;" } : Jvm.MethodName)) ∈ lw_all := lw_g (lw_at lw_m2 180 rfl) rfl
theorem q511 : (Jvm.Cond.privateMethod ({ cls := "RiverGauge", name := "standardFor", desc := "(III)LRiverGauge$Standard;" } : Jvm.MethodName)) ∈ lw_tbl := lw_at lw_m2 181 rfl
theorem q512 : (Jvm.Cond.instanceMethod ({ cls := "RiverGauge", name := "standardFor", desc := "(III)LRiverGauge$Standard;" } : Jvm.MethodName)) ∈ lw_all := lw_g (lw_at lw_m2 182 rfl) rfl
theorem q513 : (Jvm.Cond.code ({ cls := "RiverGauge", name := "standardFor", desc := "(III)LRiverGauge$Standard;" } : Jvm.MethodName) prog_1_method_9_code (7 : Nat) (Option.some (Jvm.ClassFile.FieldType.object "RiverGauge$Standard"))) ∈ lw_all := lw_g (lw_at lw_m2 183 rfl) rfl
theorem q514 : (Jvm.Cond.methodLink "RiverGauge" (186 : Nat) ({ cls := "RiverGauge", name := "aheadOf", desc := "(II)LRiverGauge$Height;" } : Jvm.MethodName)) ∈ lw_all := lw_g (lw_at lw_m2 184 rfl) rfl
theorem q515 : (Jvm.Cond.privateMethod ({ cls := "RiverGauge", name := "aheadOf", desc := "(II)LRiverGauge$Height;" } : Jvm.MethodName)) ∈ lw_tbl := lw_at lw_m2 185 rfl
theorem q516 : (Jvm.Cond.instanceMethod ({ cls := "RiverGauge", name := "aheadOf", desc := "(II)LRiverGauge$Height;" } : Jvm.MethodName)) ∈ lw_all := lw_g (lw_at lw_m2 186 rfl) rfl
theorem q517 : (Jvm.Cond.code ({ cls := "RiverGauge", name := "aheadOf", desc := "(II)LRiverGauge$Height;" } : Jvm.MethodName) prog_1_method_12_code (8 : Nat) (Option.some (Jvm.ClassFile.FieldType.object "RiverGauge$Height"))) ∈ lw_all := lw_g (lw_at lw_m2 187 rfl) rfl
theorem q518 : (Jvm.Cond.methodLink "RiverGauge" (179 : Nat) ({ cls := "RiverGauge$Height", name := "isTold", desc := "(I)Z" } : Jvm.MethodName)) ∈ lw_all := lw_g (lw_at lw_m2 188 rfl) rfl
theorem q528 : (Jvm.Cond.methodLink "RiverGauge" (190 : Nat) ({ cls := "RiverGauge", name := "clearLetters", desc := "(I)V" } : Jvm.MethodName)) ∈ lw_all := lw_g (lw_at lw_m2 198 rfl) rfl
theorem q529 : (Jvm.Cond.privateMethod ({ cls := "RiverGauge", name := "clearLetters", desc := "(I)V" } : Jvm.MethodName)) ∈ lw_tbl := lw_at lw_m2 199 rfl
theorem q530 : (Jvm.Cond.instanceMethod ({ cls := "RiverGauge", name := "clearLetters", desc := "(I)V" } : Jvm.MethodName)) ∈ lw_all := lw_g (lw_at lw_m2 200 rfl) rfl
theorem q531 : (Jvm.Cond.code ({ cls := "RiverGauge", name := "clearLetters", desc := "(I)V" } : Jvm.MethodName) prog_1_method_10_code (3 : Nat) (Option.none : Option Jvm.ClassFile.FieldType)) ∈ lw_all := lw_g (lw_at lw_m2 201 rfl) rfl
theorem q532 : (Jvm.Cond.methodLink "RiverGauge" (196 : Nat) ({ cls := "java/lang/Math", name := "abs", desc := "(I)I" } : Jvm.MethodName)) ∈ lw_all := lw_g (lw_at lw_m2 202 rfl) rfl
theorem q535 : (Jvm.Cond.methodLink "RiverGauge" (165 : Nat) ({ cls := "RiverGauge$Test", name := "holds", desc := "([I)Z" } : Jvm.MethodName)) ∈ lw_all := lw_g (lw_at lw_m2 205 rfl) rfl
theorem q570 : (Jvm.Cond.methodLink "RiverGauge" (265 : Nat) ({ cls := "RiverGauge", name := "heightOf", desc := "(III)I" } : Jvm.MethodName)) ∈ lw_all := lw_g (lw_at lw_m3 0 rfl) rfl
theorem q571 : (Jvm.Cond.privateMethod ({ cls := "RiverGauge", name := "heightOf", desc := "(III)I" } : Jvm.MethodName)) ∈ lw_tbl := lw_at lw_m3 1 rfl
theorem q572 : (Jvm.Cond.instanceMethod ({ cls := "RiverGauge", name := "heightOf", desc := "(III)I" } : Jvm.MethodName)) ∈ lw_all := lw_g (lw_at lw_m3 2 rfl) rfl
theorem q573 : (Jvm.Cond.code ({ cls := "RiverGauge", name := "heightOf", desc := "(III)I" } : Jvm.MethodName) prog_1_method_16_code (5 : Nat) (Option.some Jvm.ClassFile.FieldType.int)) ∈ lw_all := lw_g (lw_at lw_m3 3 rfl) rfl
theorem q574 : (Jvm.Cond.methodLink "RiverGauge" (206 : Nat) ({ cls := "RiverGauge", name := "countingAt", desc := "(III)I" } : Jvm.MethodName)) ∈ lw_all := lw_g (lw_at lw_m3 4 rfl) rfl
theorem q575 : (Jvm.Cond.privateMethod ({ cls := "RiverGauge", name := "countingAt", desc := "(III)I" } : Jvm.MethodName)) ∈ lw_tbl := lw_at lw_m3 5 rfl
theorem q576 : (Jvm.Cond.instanceMethod ({ cls := "RiverGauge", name := "countingAt", desc := "(III)I" } : Jvm.MethodName)) ∈ lw_all := lw_g (lw_at lw_m3 6 rfl) rfl
theorem q577 : (Jvm.Cond.code ({ cls := "RiverGauge", name := "countingAt", desc := "(III)I" } : Jvm.MethodName) prog_1_method_14_code (7 : Nat) (Option.some Jvm.ClassFile.FieldType.int)) ∈ lw_all := lw_g (lw_at lw_m3 7 rfl) rfl
theorem q578 : (Jvm.Cond.constant "RiverGauge" (472 : Nat) (99999 : Int32)) ∈ lw_all := lw_g (lw_at lw_m3 8 rfl) rfl
theorem q580 : (Jvm.Cond.methodLink "RiverGauge" (473 : Nat) ({ cls := "RiverGauge$Flow", name := "<init>", desc := "(IIIII)V" } : Jvm.MethodName)) ∈ lw_all := lw_g (lw_at lw_m3 10 rfl) rfl
theorem q597 : (Jvm.Cond.methodLink "RiverGauge" (474 : Nat) ({ cls := "RiverGauge$Flow", name := "strike", desc := "(I)V" } : Jvm.MethodName)) ∈ lw_all := lw_g (lw_at lw_m3 27 rfl) rfl
theorem q600 : (Jvm.Cond.methodLink "RiverGauge" (261 : Nat) ({ cls := "RiverGauge", name := "doesCount", desc := "(LRiverGauge$Flow;I)Z" } : Jvm.MethodName)) ∈ lw_all := lw_g (lw_at lw_m3 30 rfl) rfl
theorem q601 : (Jvm.Cond.privateMethod ({ cls := "RiverGauge", name := "doesCount", desc := "(LRiverGauge$Flow;I)Z" } : Jvm.MethodName)) ∈ lw_tbl := lw_at lw_m3 31 rfl
theorem q602 : (Jvm.Cond.instanceMethod ({ cls := "RiverGauge", name := "doesCount", desc := "(LRiverGauge$Flow;I)Z" } : Jvm.MethodName)) ∈ lw_all := lw_g (lw_at lw_m3 32 rfl) rfl
theorem q603 : (Jvm.Cond.code ({ cls := "RiverGauge", name := "doesCount", desc := "(LRiverGauge$Flow;I)Z" } : Jvm.MethodName) prog_1_method_17_code (3 : Nat) (Option.some Jvm.ClassFile.FieldType.boolean)) ∈ lw_all := lw_g (lw_at lw_m3 33 rfl) rfl
theorem q604 : (Jvm.Cond.methodLink "RiverGauge" (213 : Nat) ({ cls := "RiverGauge$Flow", name := "isTold", desc := "(I)Z" } : Jvm.MethodName)) ∈ lw_all := lw_g (lw_at lw_m3 34 rfl) rfl
theorem q607 : (Jvm.Cond.methodLink "RiverGauge" (216 : Nat) ({ cls := "RiverGauge", name := "hasHeight", desc := "(III)Z" } : Jvm.MethodName)) ∈ lw_all := lw_g (lw_at lw_m3 37 rfl) rfl
theorem q608 : (Jvm.Cond.privateMethod ({ cls := "RiverGauge", name := "hasHeight", desc := "(III)Z" } : Jvm.MethodName)) ∈ lw_tbl := lw_at lw_m3 38 rfl
theorem q609 : (Jvm.Cond.instanceMethod ({ cls := "RiverGauge", name := "hasHeight", desc := "(III)Z" } : Jvm.MethodName)) ∈ lw_all := lw_g (lw_at lw_m3 39 rfl) rfl
theorem q610 : (Jvm.Cond.code ({ cls := "RiverGauge", name := "hasHeight", desc := "(III)Z" } : Jvm.MethodName) prog_1_method_15_code (4 : Nat) (Option.some Jvm.ClassFile.FieldType.boolean)) ∈ lw_all := lw_g (lw_at lw_m3 40 rfl) rfl
theorem q611 : (Jvm.Cond.methodLink "RiverGauge" (445 : Nat) ({ cls := "RiverGauge", name := "ofCurves", desc := "(IIIIII)I" } : Jvm.MethodName)) ∈ lw_all := lw_g (lw_at lw_m3 41 rfl) rfl
theorem q612 : (Jvm.Cond.privateMethod ({ cls := "RiverGauge", name := "ofCurves", desc := "(IIIIII)I" } : Jvm.MethodName)) ∈ lw_tbl := lw_at lw_m3 42 rfl
theorem q613 : (Jvm.Cond.instanceMethod ({ cls := "RiverGauge", name := "ofCurves", desc := "(IIIIII)I" } : Jvm.MethodName)) ∈ lw_all := lw_g (lw_at lw_m3 43 rfl) rfl
theorem q614 : (Jvm.Cond.code ({ cls := "RiverGauge", name := "ofCurves", desc := "(IIIIII)I" } : Jvm.MethodName) prog_1_method_50_code (10 : Nat) (Option.some Jvm.ClassFile.FieldType.int)) ∈ lw_all := lw_g (lw_at lw_m3 44 rfl) rfl
theorem q615 : (Jvm.Cond.methodLink "RiverGauge" (475 : Nat) ({ cls := "RiverGauge", name := "tellStandard", desc := "(II)I" } : Jvm.MethodName)) ∈ lw_all := lw_g (lw_at lw_m3 45 rfl) rfl
theorem q616 : (Jvm.Cond.privateMethod ({ cls := "RiverGauge", name := "tellStandard", desc := "(II)I" } : Jvm.MethodName)) ∈ lw_tbl := lw_at lw_m3 46 rfl
theorem q617 : (Jvm.Cond.instanceMethod ({ cls := "RiverGauge", name := "tellStandard", desc := "(II)I" } : Jvm.MethodName)) ∈ lw_all := lw_g (lw_at lw_m3 47 rfl) rfl
theorem q618 : (Jvm.Cond.code ({ cls := "RiverGauge", name := "tellStandard", desc := "(II)I" } : Jvm.MethodName) prog_1_method_51_code (4 : Nat) (Option.some Jvm.ClassFile.FieldType.int)) ∈ lw_all := lw_g (lw_at lw_m3 48 rfl) rfl
theorem q619 : (Jvm.Cond.constantLong "RiverGauge" (486 : Nat) (2 : Int64)) ∈ lw_all := lw_g (lw_at lw_m3 49 rfl) rfl
theorem q621 : (Jvm.Cond.classLink "RiverGauge" (491 : Nat) "RiverGauge$Reader") ∈ lw_all := lw_g (lw_at lw_m3 51 rfl) rfl
theorem q623 : (Jvm.Cond.methodLink "RiverGauge" (493 : Nat) ({ cls := "RiverGauge$Reader", name := "<init>", desc := "([BI)V" } : Jvm.MethodName)) ∈ lw_all := lw_g (lw_at lw_m3 53 rfl) rfl
theorem q640 : (Jvm.Cond.methodLink "RiverGauge" (496 : Nat) ({ cls := "RiverGauge$Reader", name := "whole", desc := "()LRiverGauge$Test;" } : Jvm.MethodName)) ∈ lw_all := lw_g (lw_at lw_m3 70 rfl) rfl
theorem q864 : (Jvm.Cond.methodLink "RiverGauge" (500 : Nat) ({ cls := "RiverGauge$Standard", name := "<init>", desc := "(IIILRiverGauge$Test;)V" } : Jvm.MethodName)) ∈ lw_all := lw_g (lw_at lw_m4 54 rfl) rfl
theorem q869 : (Jvm.Cond.fieldLinkNest "RiverGauge" (145 : Nat) "RiverGauge$Standard" "purpose" "I" "RiverGauge") ∈ lw_tbl := lw_at lw_m4 59 rfl
theorem q871 : (Jvm.Cond.fieldLinkNest "RiverGauge" (148 : Nat) "RiverGauge$Standard" "day" "I" "RiverGauge") ∈ lw_tbl := lw_at lw_m4 61 rfl
theorem q873 : (Jvm.Cond.fieldLinkNest "RiverGauge" (151 : Nat) "RiverGauge$Standard" "known" "I" "RiverGauge") ∈ lw_tbl := lw_at lw_m4 63 rfl
theorem q875 : (Jvm.Cond.fieldLinkNest "RiverGauge" (161 : Nat) "RiverGauge$Standard" "test" "LRiverGauge$Test;" "RiverGauge") ∈ lw_tbl := lw_at lw_m4 65 rfl
theorem q885 : (Jvm.Cond.constantLong "RiverGauge" (478 : Nat) (-2000 : Int64)) ∈ lw_all := lw_g (lw_at lw_m4 75 rfl) rfl
theorem q886 : (Jvm.Cond.methodLink "RiverGauge" (297 : Nat) ({ cls := "RiverGauge", name := "curveFor", desc := "(III)LRiverGauge$Curve;" } : Jvm.MethodName)) ∈ lw_all := lw_g (lw_at lw_m4 76 rfl) rfl
theorem q887 : (Jvm.Cond.privateMethod ({ cls := "RiverGauge", name := "curveFor", desc := "(III)LRiverGauge$Curve;" } : Jvm.MethodName)) ∈ lw_tbl := lw_at lw_m4 77 rfl
theorem q888 : (Jvm.Cond.instanceMethod ({ cls := "RiverGauge", name := "curveFor", desc := "(III)LRiverGauge$Curve;" } : Jvm.MethodName)) ∈ lw_all := lw_g (lw_at lw_m4 78 rfl) rfl
theorem q889 : (Jvm.Cond.code ({ cls := "RiverGauge", name := "curveFor", desc := "(III)LRiverGauge$Curve;" } : Jvm.MethodName) prog_1_method_21_code (8 : Nat) (Option.some (Jvm.ClassFile.FieldType.object "RiverGauge$Curve"))) ∈ lw_all := lw_g (lw_at lw_m4 79 rfl) rfl
theorem q890 : (Jvm.Cond.methodLink "RiverGauge" (275 : Nat) ({ cls := "java/lang/Math", name := "max", desc := "(II)I" } : Jvm.MethodName)) ∈ lw_all := lw_g (lw_at lw_m4 80 rfl) rfl
theorem q891 : (Jvm.Cond.methodLink "RiverGauge" (278 : Nat) ({ cls := "java/lang/Math", name := "min", desc := "(II)I" } : Jvm.MethodName)) ∈ lw_all := lw_g (lw_at lw_m4 81 rfl) rfl
theorem q892 : (Jvm.Cond.methodLink "RiverGauge" (281 : Nat) ({ cls := "RiverGauge", name := "curve", desc := "(IIII)LRiverGauge$Curve;" } : Jvm.MethodName)) ∈ lw_all := lw_g (lw_at lw_m4 82 rfl) rfl
theorem q893 : (Jvm.Cond.privateMethod ({ cls := "RiverGauge", name := "curve", desc := "(IIII)LRiverGauge$Curve;" } : Jvm.MethodName)) ∈ lw_tbl := lw_at lw_m4 83 rfl
theorem q894 : (Jvm.Cond.instanceMethod ({ cls := "RiverGauge", name := "curve", desc := "(IIII)LRiverGauge$Curve;" } : Jvm.MethodName)) ∈ lw_all := lw_g (lw_at lw_m4 84 rfl) rfl
theorem q895 : (Jvm.Cond.code ({ cls := "RiverGauge", name := "curve", desc := "(IIII)LRiverGauge$Curve;" } : Jvm.MethodName) prog_1_method_19_code (7 : Nat) (Option.some (Jvm.ClassFile.FieldType.object "RiverGauge$Curve"))) ∈ lw_all := lw_g (lw_at lw_m4 85 rfl) rfl
theorem q896 : (Jvm.Cond.methodLink "RiverGauge" (251 : Nat) ({ cls := "RiverGauge", name := "make", desc := "(IIII)LRiverGauge$Curve;" } : Jvm.MethodName)) ∈ lw_all := lw_g (lw_at lw_m4 86 rfl) rfl
theorem q897 : (Jvm.Cond.privateMethod ({ cls := "RiverGauge", name := "make", desc := "(IIII)LRiverGauge$Curve;" } : Jvm.MethodName)) ∈ lw_tbl := lw_at lw_m4 87 rfl
theorem q898 : (Jvm.Cond.instanceMethod ({ cls := "RiverGauge", name := "make", desc := "(IIII)LRiverGauge$Curve;" } : Jvm.MethodName)) ∈ lw_all := lw_g (lw_at lw_m4 88 rfl) rfl
theorem q899 : (Jvm.Cond.code ({ cls := "RiverGauge", name := "make", desc := "(IIII)LRiverGauge$Curve;" } : Jvm.MethodName) prog_1_method_20_code (8 : Nat) (Option.some (Jvm.ClassFile.FieldType.object "RiverGauge$Curve"))) ∈ lw_all := lw_g (lw_at lw_m4 89 rfl) rfl
theorem q900 : (Jvm.Cond.classLink "RiverGauge" (255 : Nat) "RiverGauge$Curve") ∈ lw_all := lw_g (lw_at lw_m4 90 rfl) rfl
theorem q902 : (Jvm.Cond.methodLink "RiverGauge" (257 : Nat) ({ cls := "RiverGauge$Curve", name := "<init>", desc := "(I)V" } : Jvm.MethodName)) ∈ lw_all := lw_g (lw_at lw_m4 92 rfl) rfl
theorem q911 : (Jvm.Cond.fieldLinkNest "RiverGauge" (317 : Nat) "RiverGauge$Curve" "wrong" "I" "RiverGauge") ∈ lw_tbl := lw_at lw_m4 101 rfl
theorem q916 : (Jvm.Cond.fieldLink "RiverGauge" (410 : Nat) "RiverGauge$Curve" "heights" "[I") ∈ lw_all := lw_g (lw_at lw_m4 106 rfl) rfl
theorem q917 : (Jvm.Cond.fieldLink "RiverGauge" (503 : Nat) "RiverGauge$Base" "heights" "[I") ∈ lw_all := lw_g (lw_at lw_m4 107 rfl) rfl
theorem q922 : (Jvm.Cond.fieldLink "RiverGauge" (480 : Nat) "RiverGauge$Curve" "flows" "[J") ∈ lw_all := lw_g (lw_at lw_m4 112 rfl) rfl
theorem q923 : (Jvm.Cond.fieldLink "RiverGauge" (504 : Nat) "RiverGauge$Base" "flows" "[J") ∈ lw_all := lw_g (lw_at lw_m4 113 rfl) rfl
theorem q928 : (Jvm.Cond.fieldLink "RiverGauge" (301 : Nat) "RiverGauge$Curve" "many" "I") ∈ lw_all := lw_g (lw_at lw_m4 118 rfl) rfl
theorem q929 : (Jvm.Cond.fieldLink "RiverGauge" (335 : Nat) "RiverGauge$Base" "many" "I") ∈ lw_all := lw_g (lw_at lw_m4 119 rfl) rfl
theorem q945 : (Jvm.Cond.methodLink "RiverGauge" (268 : Nat) ({ cls := "RiverGauge$Curve", name := "add", desc := "(ILRiverGauge$Flow;)V" } : Jvm.MethodName)) ∈ lw_all := lw_g (lw_at lw_m4 135 rfl) rfl
theorem q950 : (Jvm.Cond.methodLink "RiverGauge" (272 : Nat) ({ cls := "RiverGauge$Curve", name := "pool", desc := "()V" } : Jvm.MethodName)) ∈ lw_all := lw_g (lw_at lw_m4 140 rfl) rfl
theorem q954 : (Jvm.Cond.methodLink "RiverGauge" (308 : Nat) ({ cls := "RiverGauge$Curve", name := "at", desc := "(I)J" } : Jvm.MethodName)) ∈ lw_all := lw_g (lw_at lw_m4 144 rfl) rfl
theorem q976 : (Jvm.Cond.methodLink "RiverGauge" (483 : Nat) ({ cls := "RiverGauge$Cover", name := "<init>", desc := "(IIIIII)V" } : Jvm.MethodName)) ∈ lw_all := lw_g (lw_at lw_m4 166 rfl) rfl
theorem q981 : (Jvm.Cond.fieldLinkNest "RiverGauge" (288 : Nat) "RiverGauge$Cover" "kind" "I" "RiverGauge") ∈ lw_tbl := lw_at lw_m4 171 rfl
theorem q983 : (Jvm.Cond.fieldLinkNest "RiverGauge" (291 : Nat) "RiverGauge$Cover" "to" "I" "RiverGauge") ∈ lw_tbl := lw_at lw_m4 173 rfl
theorem q995 : (Jvm.Cond.methodLink "RiverGauge" (448 : Nat) ({ cls := "RiverGauge", name := "ofBreaks", desc := "(IIIII)I" } : Jvm.MethodName)) ∈ lw_all := lw_g (lw_at lw_m4 185 rfl) rfl
theorem q996 : (Jvm.Cond.privateMethod ({ cls := "RiverGauge", name := "ofBreaks", desc := "(IIIII)I" } : Jvm.MethodName)) ∈ lw_tbl := lw_at lw_m4 186 rfl
theorem q997 : (Jvm.Cond.instanceMethod ({ cls := "RiverGauge", name := "ofBreaks", desc := "(IIIII)I" } : Jvm.MethodName)) ∈ lw_all := lw_g (lw_at lw_m4 187 rfl) rfl
theorem q998 : (Jvm.Cond.code ({ cls := "RiverGauge", name := "ofBreaks", desc := "(IIIII)I" } : Jvm.MethodName) prog_1_method_53_code (8 : Nat) (Option.some Jvm.ClassFile.FieldType.int)) ∈ lw_all := lw_g (lw_at lw_m4 188 rfl) rfl
theorem q999 : (Jvm.Cond.constantLong "RiverGauge" (506 : Nat) (-128 : Int64)) ∈ lw_all := lw_g (lw_at lw_m4 189 rfl) rfl
theorem q1000 : (Jvm.Cond.constantLong "RiverGauge" (508 : Nat) (127 : Int64)) ∈ lw_all := lw_g (lw_at lw_m4 190 rfl) rfl
theorem q1001 : (Jvm.Cond.methodLink "RiverGauge" (328 : Nat) ({ cls := "RiverGauge", name := "reckon", desc := "(III)LRiverGauge$Reckoned;" } : Jvm.MethodName)) ∈ lw_all := lw_g (lw_at lw_m4 191 rfl) rfl
theorem q1002 : (Jvm.Cond.privateMethod ({ cls := "RiverGauge", name := "reckon", desc := "(III)LRiverGauge$Reckoned;" } : Jvm.MethodName)) ∈ lw_tbl := lw_at lw_m4 192 rfl
theorem q1003 : (Jvm.Cond.instanceMethod ({ cls := "RiverGauge", name := "reckon", desc := "(III)LRiverGauge$Reckoned;" } : Jvm.MethodName)) ∈ lw_all := lw_g (lw_at lw_m4 193 rfl) rfl
theorem q1004 : (Jvm.Cond.code ({ cls := "RiverGauge", name := "reckon", desc := "(III)LRiverGauge$Reckoned;" } : Jvm.MethodName) prog_1_method_23_code (12 : Nat) (Option.some (Jvm.ClassFile.FieldType.object "RiverGauge$Reckoned"))) ∈ lw_all := lw_g (lw_at lw_m4 194 rfl) rfl
theorem q1005 : (Jvm.Cond.methodLink "RiverGauge" (304 : Nat) ({ cls := "RiverGauge", name := "covered", desc := "(IIII)I" } : Jvm.MethodName)) ∈ lw_all := lw_g (lw_at lw_m4 195 rfl) rfl
theorem q1006 : (Jvm.Cond.privateMethod ({ cls := "RiverGauge", name := "covered", desc := "(IIII)I" } : Jvm.MethodName)) ∈ lw_tbl := lw_at lw_m4 196 rfl
theorem q1007 : (Jvm.Cond.instanceMethod ({ cls := "RiverGauge", name := "covered", desc := "(IIII)I" } : Jvm.MethodName)) ∈ lw_all := lw_g (lw_at lw_m4 197 rfl) rfl
theorem q1008 : (Jvm.Cond.code ({ cls := "RiverGauge", name := "covered", desc := "(IIII)I" } : Jvm.MethodName) prog_1_method_22_code (8 : Nat) (Option.some Jvm.ClassFile.FieldType.int)) ∈ lw_all := lw_g (lw_at lw_m4 198 rfl) rfl
theorem q1009 : (Jvm.Cond.methodLink "RiverGauge" (289 : Nat) ({ cls := "RiverGauge$Cover", name := "isKnown", desc := "(I)Z" } : Jvm.MethodName)) ∈ lw_all := lw_g (lw_at lw_m4 199 rfl) rfl
theorem q1012 : (Jvm.Cond.methodLink "RiverGauge" (294 : Nat) ({ cls := "RiverGauge$Cover", name := "partAt", desc := "(I)I" } : Jvm.MethodName)) ∈ lw_all := lw_g (lw_at lw_m4 202 rfl) rfl
theorem q1016 : (Jvm.Cond.constantLong "RiverGauge" (312 : Nat) (100 : Int64)) ∈ lw_all := lw_g (lw_at lw_m4 206 rfl) rfl
theorem q1017 : (Jvm.Cond.methodLink "RiverGauge" (314 : Nat) ({ cls := "RiverGauge$Curve", name := "isBeyond", desc := "(I)Z" } : Jvm.MethodName)) ∈ lw_all := lw_g (lw_at lw_m4 207 rfl) rfl
theorem q1023 : (Jvm.Cond.classLink "RiverGauge" (320 : Nat) "RiverGauge$Reckoned") ∈ lw_all := lw_g (lw_at lw_m4 213 rfl) rfl
theorem q1025 : (Jvm.Cond.methodLink "RiverGauge" (322 : Nat) ({ cls := "RiverGauge", name := "isUnder", desc := "(III)Z" } : Jvm.MethodName)) ∈ lw_all := lw_g (lw_at lw_m4 215 rfl) rfl
theorem q1026 : (Jvm.Cond.privateMethod ({ cls := "RiverGauge", name := "isUnder", desc := "(III)Z" } : Jvm.MethodName)) ∈ lw_tbl := lw_at lw_m4 216 rfl
theorem q1027 : (Jvm.Cond.instanceMethod ({ cls := "RiverGauge", name := "isUnder", desc := "(III)Z" } : Jvm.MethodName)) ∈ lw_all := lw_g (lw_at lw_m4 217 rfl) rfl
theorem q1028 : (Jvm.Cond.code ({ cls := "RiverGauge", name := "isUnder", desc := "(III)Z" } : Jvm.MethodName) prog_1_method_24_code (6 : Nat) (Option.some Jvm.ClassFile.FieldType.boolean)) ∈ lw_all := lw_g (lw_at lw_m4 218 rfl) rfl
theorem q1029 : (Jvm.Cond.methodLink "RiverGauge" (325 : Nat) ({ cls := "RiverGauge$Reckoned", name := "<init>", desc := "(IIZZ)V" } : Jvm.MethodName)) ∈ lw_all := lw_g (lw_at lw_m4 219 rfl) rfl
theorem q1034 : (Jvm.Cond.fieldLinkNest "RiverGauge" (401 : Nat) "RiverGauge$Reckoned" "flow" "I" "RiverGauge") ∈ lw_tbl := lw_at lw_m4 224 rfl
theorem q1036 : (Jvm.Cond.fieldLinkNest "RiverGauge" (418 : Nat) "RiverGauge$Reckoned" "wrong" "I" "RiverGauge") ∈ lw_tbl := lw_at lw_m4 226 rfl
theorem q1038 : (Jvm.Cond.fieldLinkNest "RiverGauge" (419 : Nat) "RiverGauge$Reckoned" "isBeyond" "Z" "RiverGauge") ∈ lw_tbl := lw_at lw_m4 228 rfl
theorem q1040 : (Jvm.Cond.fieldLinkNest "RiverGauge" (422 : Nat) "RiverGauge$Reckoned" "isCovered" "Z" "RiverGauge") ∈ lw_tbl := lw_at lw_m4 230 rfl
theorem q1050 : (Jvm.Cond.methodLink "RiverGauge" (510 : Nat) ({ cls := "RiverGauge", name := "tellBase", desc := "(IIII)I" } : Jvm.MethodName)) ∈ lw_all := lw_g (lw_at lw_m5 0 rfl) rfl
theorem q1051 : (Jvm.Cond.privateMethod ({ cls := "RiverGauge", name := "tellBase", desc := "(IIII)I" } : Jvm.MethodName)) ∈ lw_tbl := lw_at lw_m5 1 rfl
theorem q1052 : (Jvm.Cond.instanceMethod ({ cls := "RiverGauge", name := "tellBase", desc := "(IIII)I" } : Jvm.MethodName)) ∈ lw_all := lw_g (lw_at lw_m5 2 rfl) rfl
theorem q1053 : (Jvm.Cond.code ({ cls := "RiverGauge", name := "tellBase", desc := "(IIII)I" } : Jvm.MethodName) prog_1_method_52_code (7 : Nat) (Option.some Jvm.ClassFile.FieldType.int)) ∈ lw_all := lw_g (lw_at lw_m5 3 rfl) rfl
theorem q1055 : (Jvm.Cond.methodLink "RiverGauge" (505 : Nat) ({ cls := "RiverGauge$Base", name := "<init>", desc := "()V" } : Jvm.MethodName)) ∈ lw_all := lw_g (lw_at lw_m5 5 rfl) rfl
theorem q1063 : (Jvm.Cond.constantLong "RiverGauge" (513 : Nat) (3 : Int64)) ∈ lw_all := lw_g (lw_at lw_m5 13 rfl) rfl
theorem q1064 : (Jvm.Cond.methodLink "RiverGauge" (369 : Nat) ({ cls := "RiverGauge", name := "findBreaks", desc := "(I)V" } : Jvm.MethodName)) ∈ lw_all := lw_g (lw_at lw_m5 14 rfl) rfl
theorem q1065 : (Jvm.Cond.privateMethod ({ cls := "RiverGauge", name := "findBreaks", desc := "(I)V" } : Jvm.MethodName)) ∈ lw_tbl := lw_at lw_m5 15 rfl
theorem q1066 : (Jvm.Cond.instanceMethod ({ cls := "RiverGauge", name := "findBreaks", desc := "(I)V" } : Jvm.MethodName)) ∈ lw_all := lw_g (lw_at lw_m5 16 rfl) rfl
theorem q1067 : (Jvm.Cond.code ({ cls := "RiverGauge", name := "findBreaks", desc := "(I)V" } : Jvm.MethodName) prog_1_method_31_code (4 : Nat) (Option.none : Option Jvm.ClassFile.FieldType)) ∈ lw_all := lw_g (lw_at lw_m5 17 rfl) rfl
theorem q1068 : (Jvm.Cond.methodLink "RiverGauge" (351 : Nat) ({ cls := "RiverGauge", name := "findMeasured", desc := "(I)V" } : Jvm.MethodName)) ∈ lw_all := lw_g (lw_at lw_m5 18 rfl) rfl
theorem q1069 : (Jvm.Cond.privateMethod ({ cls := "RiverGauge", name := "findMeasured", desc := "(I)V" } : Jvm.MethodName)) ∈ lw_tbl := lw_at lw_m5 19 rfl
theorem q1070 : (Jvm.Cond.instanceMethod ({ cls := "RiverGauge", name := "findMeasured", desc := "(I)V" } : Jvm.MethodName)) ∈ lw_all := lw_g (lw_at lw_m5 20 rfl) rfl
theorem q1071 : (Jvm.Cond.code ({ cls := "RiverGauge", name := "findMeasured", desc := "(I)V" } : Jvm.MethodName) prog_1_method_26_code (6 : Nat) (Option.none : Option Jvm.ClassFile.FieldType)) ∈ lw_all := lw_g (lw_at lw_m5 21 rfl) rfl
theorem q1072 : (Jvm.Cond.methodLink "RiverGauge" (336 : Nat) ({ cls := "RiverGauge$Base", name := "at", desc := "(I)J" } : Jvm.MethodName)) ∈ lw_all := lw_g (lw_at lw_m5 22 rfl) rfl
theorem q1075 : (Jvm.Cond.methodLink "RiverGauge" (337 : Nat) ({ cls := "RiverGauge$Flow", name := "lets", desc := "(J)Z" } : Jvm.MethodName)) ∈ lw_all := lw_g (lw_at lw_m5 25 rfl) rfl
theorem q1080 : (Jvm.Cond.methodLink "RiverGauge" (360 : Nat) ({ cls := "RiverGauge", name := "ones", desc := "(I)I" } : Jvm.MethodName)) ∈ lw_all := lw_g (lw_at lw_m5 30 rfl) rfl
theorem q1081 : (Jvm.Cond.static ({ cls := "RiverGauge", name := "ones", desc := "(I)I" } : Jvm.MethodName)) ∈ lw_all := lw_g (lw_at lw_m5 31 rfl) rfl
theorem q1082 : (Jvm.Cond.code ({ cls := "RiverGauge", name := "ones", desc := "(I)I" } : Jvm.MethodName) prog_1_method_6_code (3 : Nat) (Option.some Jvm.ClassFile.FieldType.int)) ∈ lw_all := lw_g (lw_at lw_m5 32 rfl) rfl
theorem q1083 : (Jvm.Cond.methodLink "RiverGauge" (363 : Nat) ({ cls := "RiverGauge", name := "goesAll", desc := "(I)Z" } : Jvm.MethodName)) ∈ lw_all := lw_g (lw_at lw_m5 33 rfl) rfl
theorem q1084 : (Jvm.Cond.privateMethod ({ cls := "RiverGauge", name := "goesAll", desc := "(I)Z" } : Jvm.MethodName)) ∈ lw_tbl := lw_at lw_m5 34 rfl
theorem q1085 : (Jvm.Cond.instanceMethod ({ cls := "RiverGauge", name := "goesAll", desc := "(I)Z" } : Jvm.MethodName)) ∈ lw_all := lw_g (lw_at lw_m5 35 rfl) rfl
theorem q1086 : (Jvm.Cond.code ({ cls := "RiverGauge", name := "goesAll", desc := "(I)Z" } : Jvm.MethodName) prog_1_method_30_code (3 : Nat) (Option.some Jvm.ClassFile.FieldType.boolean)) ∈ lw_all := lw_g (lw_at lw_m5 36 rfl) rfl
theorem q1087 : (Jvm.Cond.methodLink "RiverGauge" (345 : Nat) ({ cls := "RiverGauge", name := "endOf", desc := "(II)I" } : Jvm.MethodName)) ∈ lw_all := lw_g (lw_at lw_m5 37 rfl) rfl
theorem q1088 : (Jvm.Cond.privateMethod ({ cls := "RiverGauge", name := "endOf", desc := "(II)I" } : Jvm.MethodName)) ∈ lw_tbl := lw_at lw_m5 38 rfl
theorem q1089 : (Jvm.Cond.instanceMethod ({ cls := "RiverGauge", name := "endOf", desc := "(II)I" } : Jvm.MethodName)) ∈ lw_all := lw_g (lw_at lw_m5 39 rfl) rfl
theorem q1090 : (Jvm.Cond.code ({ cls := "RiverGauge", name := "endOf", desc := "(II)I" } : Jvm.MethodName) prog_1_method_29_code (4 : Nat) (Option.some Jvm.ClassFile.FieldType.int)) ∈ lw_all := lw_g (lw_at lw_m5 40 rfl) rfl
theorem q1091 : (Jvm.Cond.methodLink "RiverGauge" (348 : Nat) ({ cls := "RiverGauge", name := "shiftOf", desc := "(II)I" } : Jvm.MethodName)) ∈ lw_all := lw_g (lw_at lw_m5 41 rfl) rfl
theorem q1092 : (Jvm.Cond.privateMethod ({ cls := "RiverGauge", name := "shiftOf", desc := "(II)I" } : Jvm.MethodName)) ∈ lw_tbl := lw_at lw_m5 42 rfl
theorem q1093 : (Jvm.Cond.instanceMethod ({ cls := "RiverGauge", name := "shiftOf", desc := "(II)I" } : Jvm.MethodName)) ∈ lw_all := lw_g (lw_at lw_m5 43 rfl) rfl
theorem q1094 : (Jvm.Cond.code ({ cls := "RiverGauge", name := "shiftOf", desc := "(II)I" } : Jvm.MethodName) prog_1_method_28_code (4 : Nat) (Option.some Jvm.ClassFile.FieldType.int)) ∈ lw_all := lw_g (lw_at lw_m5 44 rfl) rfl
theorem q1095 : (Jvm.Cond.methodLink "RiverGauge" (341 : Nat) ({ cls := "RiverGauge", name := "goWith", desc := "(III)Z" } : Jvm.MethodName)) ∈ lw_all := lw_g (lw_at lw_m5 45 rfl) rfl
theorem q1096 : (Jvm.Cond.privateMethod ({ cls := "RiverGauge", name := "goWith", desc := "(III)Z" } : Jvm.MethodName)) ∈ lw_tbl := lw_at lw_m5 46 rfl
theorem q1097 : (Jvm.Cond.instanceMethod ({ cls := "RiverGauge", name := "goWith", desc := "(III)Z" } : Jvm.MethodName)) ∈ lw_all := lw_g (lw_at lw_m5 47 rfl) rfl
theorem q1098 : (Jvm.Cond.code ({ cls := "RiverGauge", name := "goWith", desc := "(III)Z" } : Jvm.MethodName) prog_1_method_27_code (5 : Nat) (Option.some Jvm.ClassFile.FieldType.boolean)) ∈ lw_all := lw_g (lw_at lw_m5 48 rfl) rfl
theorem q1099 : (Jvm.Cond.constant "RiverGauge" (344 : Nat) (1000000 : Int32)) ∈ lw_all := lw_g (lw_at lw_m5 49 rfl) rfl
theorem q1100 : (Jvm.Cond.methodLink "RiverGauge" (515 : Nat) ({ cls := "RiverGauge", name := "shiftTold", desc := "(II)I" } : Jvm.MethodName)) ∈ lw_all := lw_g (lw_at lw_m5 50 rfl) rfl
theorem q1101 : (Jvm.Cond.privateMethod ({ cls := "RiverGauge", name := "shiftTold", desc := "(II)I" } : Jvm.MethodName)) ∈ lw_tbl := lw_at lw_m5 51 rfl
theorem q1102 : (Jvm.Cond.instanceMethod ({ cls := "RiverGauge", name := "shiftTold", desc := "(II)I" } : Jvm.MethodName)) ∈ lw_all := lw_g (lw_at lw_m5 52 rfl) rfl
theorem q1103 : (Jvm.Cond.code ({ cls := "RiverGauge", name := "shiftTold", desc := "(II)I" } : Jvm.MethodName) prog_1_method_32_code (5 : Nat) (Option.some Jvm.ClassFile.FieldType.int)) ∈ lw_all := lw_g (lw_at lw_m5 53 rfl) rfl
theorem q1104 : (Jvm.Cond.methodLink "RiverGauge" (518 : Nat) ({ cls := "RiverGauge", name := "judgeRow", desc := "(I)I" } : Jvm.MethodName)) ∈ lw_all := lw_g (lw_at lw_m5 54 rfl) rfl
theorem q1105 : (Jvm.Cond.privateMethod ({ cls := "RiverGauge", name := "judgeRow", desc := "(I)I" } : Jvm.MethodName)) ∈ lw_tbl := lw_at lw_m5 55 rfl
theorem q1106 : (Jvm.Cond.instanceMethod ({ cls := "RiverGauge", name := "judgeRow", desc := "(I)I" } : Jvm.MethodName)) ∈ lw_all := lw_g (lw_at lw_m5 56 rfl) rfl
theorem q1107 : (Jvm.Cond.code ({ cls := "RiverGauge", name := "judgeRow", desc := "(I)I" } : Jvm.MethodName) prog_1_method_33_code (5 : Nat) (Option.some Jvm.ClassFile.FieldType.int)) ∈ lw_all := lw_g (lw_at lw_m5 57 rfl) rfl
theorem q1108 : (Jvm.Cond.constantLong "RiverGauge" (375 : Nat) (-50 : Int64)) ∈ lw_all := lw_g (lw_at lw_m5 58 rfl) rfl
theorem q1109 : (Jvm.Cond.constantLong "RiverGauge" (377 : Nat) (50 : Int64)) ∈ lw_all := lw_g (lw_at lw_m5 59 rfl) rfl
theorem q1110 : (Jvm.Cond.methodLink "RiverGauge" (451 : Nat) ({ cls := "RiverGauge", name := "ofFloods", desc := "(IIIIII)I" } : Jvm.MethodName)) ∈ lw_all := lw_g (lw_at lw_m5 60 rfl) rfl
theorem q1111 : (Jvm.Cond.privateMethod ({ cls := "RiverGauge", name := "ofFloods", desc := "(IIIIII)I" } : Jvm.MethodName)) ∈ lw_tbl := lw_at lw_m5 61 rfl
theorem q1112 : (Jvm.Cond.instanceMethod ({ cls := "RiverGauge", name := "ofFloods", desc := "(IIIIII)I" } : Jvm.MethodName)) ∈ lw_all := lw_g (lw_at lw_m5 62 rfl) rfl
theorem q1113 : (Jvm.Cond.code ({ cls := "RiverGauge", name := "ofFloods", desc := "(IIIIII)I" } : Jvm.MethodName) prog_1_method_54_code (9 : Nat) (Option.some Jvm.ClassFile.FieldType.int)) ∈ lw_all := lw_g (lw_at lw_m5 63 rfl) rfl
theorem q1114 : (Jvm.Cond.methodLink "RiverGauge" (398 : Nat) ({ cls := "RiverGauge", name := "tryReckon", desc := "(III)LRiverGauge$Reckoned;" } : Jvm.MethodName)) ∈ lw_all := lw_g (lw_at lw_m5 64 rfl) rfl
theorem q1115 : (Jvm.Cond.privateMethod ({ cls := "RiverGauge", name := "tryReckon", desc := "(III)LRiverGauge$Reckoned;" } : Jvm.MethodName)) ∈ lw_tbl := lw_at lw_m5 65 rfl
theorem q1116 : (Jvm.Cond.instanceMethod ({ cls := "RiverGauge", name := "tryReckon", desc := "(III)LRiverGauge$Reckoned;" } : Jvm.MethodName)) ∈ lw_all := lw_g (lw_at lw_m5 66 rfl) rfl
theorem q1117 : (Jvm.Cond.code ({ cls := "RiverGauge", name := "tryReckon", desc := "(III)LRiverGauge$Reckoned;" } : Jvm.MethodName) prog_1_method_25_code (4 : Nat) (Option.some (Jvm.ClassFile.FieldType.object "RiverGauge$Reckoned"))) ∈ lw_all := lw_g (lw_at lw_m5 67 rfl) rfl
theorem q1118 : (Jvm.Cond.methodLink "RiverGauge" (521 : Nat) ({ cls := "RiverGauge", name := "mendIt", desc := "()I" } : Jvm.MethodName)) ∈ lw_all := lw_g (lw_at lw_m5 68 rfl) rfl
theorem q1119 : (Jvm.Cond.privateMethod ({ cls := "RiverGauge", name := "mendIt", desc := "()I" } : Jvm.MethodName)) ∈ lw_tbl := lw_at lw_m5 69 rfl
theorem q1120 : (Jvm.Cond.instanceMethod ({ cls := "RiverGauge", name := "mendIt", desc := "()I" } : Jvm.MethodName)) ∈ lw_all := lw_g (lw_at lw_m5 70 rfl) rfl
theorem q1121 : (Jvm.Cond.code ({ cls := "RiverGauge", name := "mendIt", desc := "()I" } : Jvm.MethodName) prog_1_method_43_code (3 : Nat) (Option.some Jvm.ClassFile.FieldType.int)) ∈ lw_all := lw_g (lw_at lw_m5 71 rfl) rfl
theorem q1122 : (Jvm.Cond.methodLink "RiverGauge" (524 : Nat) ({ cls := "RiverGauge", name := "ofTimes", desc := "(IIIIII)I" } : Jvm.MethodName)) ∈ lw_all := lw_g (lw_at lw_m5 72 rfl) rfl
theorem q1123 : (Jvm.Cond.privateMethod ({ cls := "RiverGauge", name := "ofTimes", desc := "(IIIIII)I" } : Jvm.MethodName)) ∈ lw_tbl := lw_at lw_m5 73 rfl
theorem q1124 : (Jvm.Cond.instanceMethod ({ cls := "RiverGauge", name := "ofTimes", desc := "(IIIIII)I" } : Jvm.MethodName)) ∈ lw_all := lw_g (lw_at lw_m5 74 rfl) rfl
theorem q1125 : (Jvm.Cond.code ({ cls := "RiverGauge", name := "ofTimes", desc := "(IIIIII)I" } : Jvm.MethodName) prog_1_method_55_code (7 : Nat) (Option.some Jvm.ClassFile.FieldType.int)) ∈ lw_all := lw_g (lw_at lw_m5 75 rfl) rfl
theorem q1126 : (Jvm.Cond.methodLink "RiverGauge" (527 : Nat) ({ cls := "RiverGauge", name := "gapTold", desc := "(III)I" } : Jvm.MethodName)) ∈ lw_all := lw_g (lw_at lw_m5 76 rfl) rfl
theorem q1127 : (Jvm.Cond.privateMethod ({ cls := "RiverGauge", name := "gapTold", desc := "(III)I" } : Jvm.MethodName)) ∈ lw_tbl := lw_at lw_m5 77 rfl
theorem q1128 : (Jvm.Cond.instanceMethod ({ cls := "RiverGauge", name := "gapTold", desc := "(III)I" } : Jvm.MethodName)) ∈ lw_all := lw_g (lw_at lw_m5 78 rfl) rfl
theorem q1129 : (Jvm.Cond.code ({ cls := "RiverGauge", name := "gapTold", desc := "(III)I" } : Jvm.MethodName) prog_1_method_36_code (8 : Nat) (Option.some Jvm.ClassFile.FieldType.int)) ∈ lw_all := lw_g (lw_at lw_m5 79 rfl) rfl
theorem q1130 : (Jvm.Cond.methodLink "RiverGauge" (385 : Nat) ({ cls := "RiverGauge", name := "findGap", desc := "(II)V" } : Jvm.MethodName)) ∈ lw_all := lw_g (lw_at lw_m5 80 rfl) rfl
theorem q1131 : (Jvm.Cond.privateMethod ({ cls := "RiverGauge", name := "findGap", desc := "(II)V" } : Jvm.MethodName)) ∈ lw_tbl := lw_at lw_m5 81 rfl
theorem q1132 : (Jvm.Cond.instanceMethod ({ cls := "RiverGauge", name := "findGap", desc := "(II)V" } : Jvm.MethodName)) ∈ lw_all := lw_g (lw_at lw_m5 82 rfl) rfl
theorem q1133 : (Jvm.Cond.code ({ cls := "RiverGauge", name := "findGap", desc := "(II)V" } : Jvm.MethodName) prog_1_method_34_code (4 : Nat) (Option.none : Option Jvm.ClassFile.FieldType)) ∈ lw_all := lw_g (lw_at lw_m5 83 rfl) rfl
theorem q1134 : (Jvm.Cond.methodLink "RiverGauge" (392 : Nat) ({ cls := "RiverGauge", name := "lets", desc := "(II)Z" } : Jvm.MethodName)) ∈ lw_all := lw_g (lw_at lw_m5 84 rfl) rfl
theorem q1135 : (Jvm.Cond.privateMethod ({ cls := "RiverGauge", name := "lets", desc := "(II)Z" } : Jvm.MethodName)) ∈ lw_tbl := lw_at lw_m5 85 rfl
theorem q1136 : (Jvm.Cond.instanceMethod ({ cls := "RiverGauge", name := "lets", desc := "(II)Z" } : Jvm.MethodName)) ∈ lw_all := lw_g (lw_at lw_m5 86 rfl) rfl
theorem q1137 : (Jvm.Cond.code ({ cls := "RiverGauge", name := "lets", desc := "(II)Z" } : Jvm.MethodName) prog_1_method_11_code (4 : Nat) (Option.some Jvm.ClassFile.FieldType.boolean)) ∈ lw_all := lw_g (lw_at lw_m5 87 rfl) rfl
theorem q1138 : (Jvm.Cond.methodLink "RiverGauge" (395 : Nat) ({ cls := "RiverGauge", name := "between", desc := "(II)I" } : Jvm.MethodName)) ∈ lw_all := lw_g (lw_at lw_m5 88 rfl) rfl
theorem q1139 : (Jvm.Cond.privateMethod ({ cls := "RiverGauge", name := "between", desc := "(II)I" } : Jvm.MethodName)) ∈ lw_tbl := lw_at lw_m5 89 rfl
theorem q1140 : (Jvm.Cond.instanceMethod ({ cls := "RiverGauge", name := "between", desc := "(II)I" } : Jvm.MethodName)) ∈ lw_all := lw_g (lw_at lw_m5 90 rfl) rfl
theorem q1141 : (Jvm.Cond.code ({ cls := "RiverGauge", name := "between", desc := "(II)I" } : Jvm.MethodName) prog_1_method_35_code (5 : Nat) (Option.some Jvm.ClassFile.FieldType.int)) ∈ lw_all := lw_g (lw_at lw_m5 91 rfl) rfl
theorem q1142 : (Jvm.Cond.methodLink "RiverGauge" (530 : Nat) ({ cls := "RiverGauge", name := "peakOf", desc := "(IIII)I" } : Jvm.MethodName)) ∈ lw_all := lw_g (lw_at lw_m5 92 rfl) rfl
theorem q1143 : (Jvm.Cond.privateMethod ({ cls := "RiverGauge", name := "peakOf", desc := "(IIII)I" } : Jvm.MethodName)) ∈ lw_tbl := lw_at lw_m5 93 rfl
theorem q1144 : (Jvm.Cond.instanceMethod ({ cls := "RiverGauge", name := "peakOf", desc := "(IIII)I" } : Jvm.MethodName)) ∈ lw_all := lw_g (lw_at lw_m5 94 rfl) rfl
theorem q1145 : (Jvm.Cond.code ({ cls := "RiverGauge", name := "peakOf", desc := "(IIII)I" } : Jvm.MethodName) prog_1_method_37_code (9 : Nat) (Option.some Jvm.ClassFile.FieldType.int)) ∈ lw_all := lw_g (lw_at lw_m5 95 rfl) rfl
theorem q1146 : (Jvm.Cond.constantLong "RiverGauge" (533 : Nat) (99999999 : Int64)) ∈ lw_all := lw_g (lw_at lw_m5 96 rfl) rfl
theorem q1147 : (Jvm.Cond.methodLink "RiverGauge" (535 : Nat) ({ cls := "RiverGauge", name := "oftenIn", desc := "(II)I" } : Jvm.MethodName)) ∈ lw_all := lw_g (lw_at lw_m5 97 rfl) rfl
theorem q1148 : (Jvm.Cond.privateMethod ({ cls := "RiverGauge", name := "oftenIn", desc := "(II)I" } : Jvm.MethodName)) ∈ lw_tbl := lw_at lw_m5 98 rfl
theorem q1149 : (Jvm.Cond.instanceMethod ({ cls := "RiverGauge", name := "oftenIn", desc := "(II)I" } : Jvm.MethodName)) ∈ lw_all := lw_g (lw_at lw_m5 99 rfl) rfl
theorem q1150 : (Jvm.Cond.code ({ cls := "RiverGauge", name := "oftenIn", desc := "(II)I" } : Jvm.MethodName) prog_1_method_38_code (8 : Nat) (Option.some Jvm.ClassFile.FieldType.int)) ∈ lw_all := lw_g (lw_at lw_m5 100 rfl) rfl
theorem q1151 : (Jvm.Cond.methodLink "RiverGauge" (538 : Nat) ({ cls := "RiverGauge", name := "agreeTold", desc := "(IIIII)I" } : Jvm.MethodName)) ∈ lw_all := lw_g (lw_at lw_m5 101 rfl) rfl
theorem q1152 : (Jvm.Cond.privateMethod ({ cls := "RiverGauge", name := "agreeTold", desc := "(IIIII)I" } : Jvm.MethodName)) ∈ lw_tbl := lw_at lw_m5 102 rfl
theorem q1153 : (Jvm.Cond.instanceMethod ({ cls := "RiverGauge", name := "agreeTold", desc := "(IIIII)I" } : Jvm.MethodName)) ∈ lw_all := lw_g (lw_at lw_m5 103 rfl) rfl
theorem q1154 : (Jvm.Cond.code ({ cls := "RiverGauge", name := "agreeTold", desc := "(IIIII)I" } : Jvm.MethodName) prog_1_method_40_code (19 : Nat) (Option.some Jvm.ClassFile.FieldType.int)) ∈ lw_all := lw_g (lw_at lw_m5 104 rfl) rfl
theorem q1155 : (Jvm.Cond.methodLink "RiverGauge" (404 : Nat) ({ cls := "RiverGauge", name := "divisor", desc := "(JJ)J" } : Jvm.MethodName)) ∈ lw_all := lw_g (lw_at lw_m5 105 rfl) rfl
theorem q1156 : (Jvm.Cond.static ({ cls := "RiverGauge", name := "divisor", desc := "(JJ)J" } : Jvm.MethodName)) ∈ lw_all := lw_g (lw_at lw_m5 106 rfl) rfl
theorem q1157 : (Jvm.Cond.code ({ cls := "RiverGauge", name := "divisor", desc := "(JJ)J" } : Jvm.MethodName) prog_1_method_39_code (10 : Nat) (Option.some Jvm.ClassFile.FieldType.long)) ∈ lw_all := lw_g (lw_at lw_m5 107 rfl) rfl
theorem q1158 : (Jvm.Cond.methodLink "RiverGauge" (541 : Nat) ({ cls := "RiverGauge", name := "nextAt", desc := "(I)I" } : Jvm.MethodName)) ∈ lw_all := lw_g (lw_at lw_m5 108 rfl) rfl
theorem q1159 : (Jvm.Cond.privateMethod ({ cls := "RiverGauge", name := "nextAt", desc := "(I)I" } : Jvm.MethodName)) ∈ lw_tbl := lw_at lw_m5 109 rfl
theorem q1160 : (Jvm.Cond.instanceMethod ({ cls := "RiverGauge", name := "nextAt", desc := "(I)I" } : Jvm.MethodName)) ∈ lw_all := lw_g (lw_at lw_m5 110 rfl) rfl
theorem q1161 : (Jvm.Cond.code ({ cls := "RiverGauge", name := "nextAt", desc := "(I)I" } : Jvm.MethodName) prog_1_method_41_code (12 : Nat) (Option.some Jvm.ClassFile.FieldType.int)) ∈ lw_all := lw_g (lw_at lw_m5 111 rfl) rfl
theorem q1162 : (Jvm.Cond.constantLong "RiverGauge" (408 : Nat) (-1 : Int64)) ∈ lw_all := lw_g (lw_at lw_m5 112 rfl) rfl
theorem q1163 : (Jvm.Cond.methodLink "RiverGauge" (412 : Nat) ({ cls := "java/lang/Math", name := "floorDiv", desc := "(II)I" } : Jvm.MethodName)) ∈ lw_all := lw_g (lw_at lw_m5 113 rfl) rfl
theorem q1166 : (Jvm.Cond.methodLink "RiverGauge" (544 : Nat) ({ cls := "RiverGauge", name := "publishIt", desc := "(II)I" } : Jvm.MethodName)) ∈ lw_all := lw_g (lw_at lw_m5 116 rfl) rfl
theorem q1167 : (Jvm.Cond.privateMethod ({ cls := "RiverGauge", name := "publishIt", desc := "(II)I" } : Jvm.MethodName)) ∈ lw_tbl := lw_at lw_m5 117 rfl
theorem q1168 : (Jvm.Cond.instanceMethod ({ cls := "RiverGauge", name := "publishIt", desc := "(II)I" } : Jvm.MethodName)) ∈ lw_all := lw_g (lw_at lw_m5 118 rfl) rfl
theorem q1169 : (Jvm.Cond.code ({ cls := "RiverGauge", name := "publishIt", desc := "(II)I" } : Jvm.MethodName) prog_1_method_42_code (4 : Nat) (Option.some Jvm.ClassFile.FieldType.int)) ∈ lw_all := lw_g (lw_at lw_m5 119 rfl) rfl
theorem q1170 : (Jvm.Cond.methodLink "RiverGauge" (431 : Nat) ({ cls := "RiverGauge$Refusal", name := "number", desc := "()I" } : Jvm.MethodName)) ∈ lw_all := lw_g (lw_at lw_m5 120 rfl) rfl
theorem q1177 : (Jvm.Cond.methodLink "RiverGauge" (434 : Nat) ({ cls := "RiverGauge", name := "refuse", desc := "(I)I" } : Jvm.MethodName)) ∈ lw_all := lw_g (lw_at lw_m5 127 rfl) rfl
theorem q1178 : (Jvm.Cond.privateMethod ({ cls := "RiverGauge", name := "refuse", desc := "(I)I" } : Jvm.MethodName)) ∈ lw_tbl := lw_at lw_m5 128 rfl
theorem q1179 : (Jvm.Cond.instanceMethod ({ cls := "RiverGauge", name := "refuse", desc := "(I)I" } : Jvm.MethodName)) ∈ lw_all := lw_g (lw_at lw_m5 129 rfl) rfl
theorem q1180 : (Jvm.Cond.code ({ cls := "RiverGauge", name := "refuse", desc := "(I)I" } : Jvm.MethodName) prog_1_method_44_code (2 : Nat) (Option.some Jvm.ClassFile.FieldType.int)) ∈ lw_all := lw_g (lw_at lw_m5 130 rfl) rfl
theorem q1182 : (Jvm.Cond.instanceMethod ({ cls := "RiverGauge", name := "post", desc := "(I)I" } : Jvm.MethodName)) ∈ lw_all := lw_g (lw_at lw_m5 132 rfl) rfl
theorem q1183 : (Jvm.Cond.selects "RiverGauge" ({ cls := "RiverGauge", name := "post", desc := "(I)I" } : Jvm.MethodName) ({ cls := "RiverGauge", name := "post", desc := "(I)I" } : Jvm.MethodName)) ∈ lw_all := lw_g (lw_at lw_m5 133 rfl) rfl
theorem q1184 : (Jvm.Cond.code ({ cls := "RiverGauge", name := "post", desc := "(I)I" } : Jvm.MethodName) prog_1_method_58_code (2 : Nat) (Option.some Jvm.ClassFile.FieldType.int)) ∈ lw_all := lw_g (lw_at lw_m5 134 rfl) rfl
theorem q1186 : (Jvm.Cond.instanceMethod ({ cls := "RiverGauge", name := "moved", desc := "(III)I" } : Jvm.MethodName)) ∈ lw_all := lw_g (lw_at lw_m5 136 rfl) rfl
theorem q1187 : (Jvm.Cond.selects "RiverGauge" ({ cls := "RiverGauge", name := "moved", desc := "(III)I" } : Jvm.MethodName) ({ cls := "RiverGauge", name := "moved", desc := "(III)I" } : Jvm.MethodName)) ∈ lw_all := lw_g (lw_at lw_m5 137 rfl) rfl
theorem q1188 : (Jvm.Cond.code ({ cls := "RiverGauge", name := "moved", desc := "(III)I" } : Jvm.MethodName) prog_1_method_59_code (4 : Nat) (Option.some Jvm.ClassFile.FieldType.int)) ∈ lw_all := lw_g (lw_at lw_m5 138 rfl) rfl
theorem q1190 : (Jvm.Cond.instanceMethod ({ cls := "RiverGauge", name := "zeroAt", desc := "(III)I" } : Jvm.MethodName)) ∈ lw_all := lw_g (lw_at lw_m5 140 rfl) rfl
theorem q1191 : (Jvm.Cond.selects "RiverGauge" ({ cls := "RiverGauge", name := "zeroAt", desc := "(III)I" } : Jvm.MethodName) ({ cls := "RiverGauge", name := "zeroAt", desc := "(III)I" } : Jvm.MethodName)) ∈ lw_all := lw_g (lw_at lw_m5 141 rfl) rfl
theorem q1192 : (Jvm.Cond.code ({ cls := "RiverGauge", name := "zeroAt", desc := "(III)I" } : Jvm.MethodName) prog_1_method_60_code (4 : Nat) (Option.some Jvm.ClassFile.FieldType.int)) ∈ lw_all := lw_g (lw_at lw_m5 142 rfl) rfl
theorem q1193 : (Jvm.Cond.methodLink "RiverGauge" (550 : Nat) ({ cls := "RiverGauge", name := "actFar", desc := "(IIIIII)I" } : Jvm.MethodName)) ∈ lw_all := lw_g (lw_at lw_m5 143 rfl) rfl
theorem q1194 : (Jvm.Cond.privateMethod ({ cls := "RiverGauge", name := "actFar", desc := "(IIIIII)I" } : Jvm.MethodName)) ∈ lw_tbl := lw_at lw_m5 144 rfl
theorem q1195 : (Jvm.Cond.instanceMethod ({ cls := "RiverGauge", name := "actFar", desc := "(IIIIII)I" } : Jvm.MethodName)) ∈ lw_all := lw_g (lw_at lw_m5 145 rfl) rfl
theorem q1196 : (Jvm.Cond.codeWith ({ cls := "RiverGauge", name := "actFar", desc := "(IIIIII)I" } : Jvm.MethodName) prog_1_method_46_code (8 : Nat) (Option.some Jvm.ClassFile.FieldType.int) [((0 : Nat), (13 : Nat), (14 : Nat), (429 : Nat))]) ∈ lw_all := lw_g (lw_at lw_m5 146 rfl) rfl
theorem q1197 : (Jvm.Cond.constant "RiverGauge" (437 : Nat) (1000000000 : Int32)) ∈ lw_all := lw_g (lw_at lw_m5 147 rfl) rfl
theorem q1199 : (Jvm.Cond.instanceMethod ({ cls := "RiverGauge", name := "height", desc := "(IIII)I" } : Jvm.MethodName)) ∈ lw_all := lw_g (lw_at lw_m5 149 rfl) rfl
theorem q1200 : (Jvm.Cond.selects "RiverGauge" ({ cls := "RiverGauge", name := "height", desc := "(IIII)I" } : Jvm.MethodName) ({ cls := "RiverGauge", name := "height", desc := "(IIII)I" } : Jvm.MethodName)) ∈ lw_all := lw_g (lw_at lw_m5 150 rfl) rfl
theorem q1201 : (Jvm.Cond.code ({ cls := "RiverGauge", name := "height", desc := "(IIII)I" } : Jvm.MethodName) prog_1_method_61_code (5 : Nat) (Option.some Jvm.ClassFile.FieldType.int)) ∈ lw_all := lw_g (lw_at lw_m5 151 rfl) rfl
theorem q1203 : (Jvm.Cond.instanceMethod ({ cls := "RiverGauge", name := "strike", desc := "(I)I" } : Jvm.MethodName)) ∈ lw_all := lw_g (lw_at lw_m5 153 rfl) rfl
theorem q1204 : (Jvm.Cond.selects "RiverGauge" ({ cls := "RiverGauge", name := "strike", desc := "(I)I" } : Jvm.MethodName) ({ cls := "RiverGauge", name := "strike", desc := "(I)I" } : Jvm.MethodName)) ∈ lw_all := lw_g (lw_at lw_m5 154 rfl) rfl
theorem q1205 : (Jvm.Cond.code ({ cls := "RiverGauge", name := "strike", desc := "(I)I" } : Jvm.MethodName) prog_1_method_62_code (2 : Nat) (Option.some Jvm.ClassFile.FieldType.int)) ∈ lw_all := lw_g (lw_at lw_m5 155 rfl) rfl
theorem q1207 : (Jvm.Cond.instanceMethod ({ cls := "RiverGauge", name := "isStruck", desc := "(II)I" } : Jvm.MethodName)) ∈ lw_all := lw_g (lw_at lw_m5 157 rfl) rfl
theorem q1208 : (Jvm.Cond.selects "RiverGauge" ({ cls := "RiverGauge", name := "isStruck", desc := "(II)I" } : Jvm.MethodName) ({ cls := "RiverGauge", name := "isStruck", desc := "(II)I" } : Jvm.MethodName)) ∈ lw_all := lw_g (lw_at lw_m5 158 rfl) rfl
theorem q1209 : (Jvm.Cond.code ({ cls := "RiverGauge", name := "isStruck", desc := "(II)I" } : Jvm.MethodName) prog_1_method_63_code (3 : Nat) (Option.some Jvm.ClassFile.FieldType.int)) ∈ lw_all := lw_g (lw_at lw_m5 159 rfl) rfl
theorem q1211 : (Jvm.Cond.instanceMethod ({ cls := "RiverGauge", name := "heightAt", desc := "(III)I" } : Jvm.MethodName)) ∈ lw_all := lw_g (lw_at lw_m5 161 rfl) rfl
theorem q1212 : (Jvm.Cond.selects "RiverGauge" ({ cls := "RiverGauge", name := "heightAt", desc := "(III)I" } : Jvm.MethodName) ({ cls := "RiverGauge", name := "heightAt", desc := "(III)I" } : Jvm.MethodName)) ∈ lw_all := lw_g (lw_at lw_m5 162 rfl) rfl
theorem q1213 : (Jvm.Cond.code ({ cls := "RiverGauge", name := "heightAt", desc := "(III)I" } : Jvm.MethodName) prog_1_method_64_code (4 : Nat) (Option.some Jvm.ClassFile.FieldType.int)) ∈ lw_all := lw_g (lw_at lw_m5 163 rfl) rfl
theorem q1215 : (Jvm.Cond.instanceMethod ({ cls := "RiverGauge", name := "measure", desc := "(IIII)I" } : Jvm.MethodName)) ∈ lw_all := lw_g (lw_at lw_m5 165 rfl) rfl
theorem q1216 : (Jvm.Cond.selects "RiverGauge" ({ cls := "RiverGauge", name := "measure", desc := "(IIII)I" } : Jvm.MethodName) ({ cls := "RiverGauge", name := "measure", desc := "(IIII)I" } : Jvm.MethodName)) ∈ lw_all := lw_g (lw_at lw_m5 166 rfl) rfl
theorem q1217 : (Jvm.Cond.code ({ cls := "RiverGauge", name := "measure", desc := "(IIII)I" } : Jvm.MethodName) prog_1_method_65_code (5 : Nat) (Option.some Jvm.ClassFile.FieldType.int)) ∈ lw_all := lw_g (lw_at lw_m5 167 rfl) rfl
theorem q1219 : (Jvm.Cond.instanceMethod ({ cls := "RiverGauge", name := "drop", desc := "(I)I" } : Jvm.MethodName)) ∈ lw_all := lw_g (lw_at lw_m5 169 rfl) rfl
theorem q1220 : (Jvm.Cond.selects "RiverGauge" ({ cls := "RiverGauge", name := "drop", desc := "(I)I" } : Jvm.MethodName) ({ cls := "RiverGauge", name := "drop", desc := "(I)I" } : Jvm.MethodName)) ∈ lw_all := lw_g (lw_at lw_m5 170 rfl) rfl
theorem q1221 : (Jvm.Cond.code ({ cls := "RiverGauge", name := "drop", desc := "(I)I" } : Jvm.MethodName) prog_1_method_66_code (2 : Nat) (Option.some Jvm.ClassFile.FieldType.int)) ∈ lw_all := lw_g (lw_at lw_m5 171 rfl) rfl
theorem q1223 : (Jvm.Cond.instanceMethod ({ cls := "RiverGauge", name := "counts", desc := "(II)I" } : Jvm.MethodName)) ∈ lw_all := lw_g (lw_at lw_m5 173 rfl) rfl
theorem q1224 : (Jvm.Cond.selects "RiverGauge" ({ cls := "RiverGauge", name := "counts", desc := "(II)I" } : Jvm.MethodName) ({ cls := "RiverGauge", name := "counts", desc := "(II)I" } : Jvm.MethodName)) ∈ lw_all := lw_g (lw_at lw_m5 174 rfl) rfl
theorem q1225 : (Jvm.Cond.code ({ cls := "RiverGauge", name := "counts", desc := "(II)I" } : Jvm.MethodName) prog_1_method_67_code (3 : Nat) (Option.some Jvm.ClassFile.FieldType.int)) ∈ lw_all := lw_g (lw_at lw_m5 175 rfl) rfl
theorem q1227 : (Jvm.Cond.instanceMethod ({ cls := "RiverGauge", name := "feed", desc := "(IJ)I" } : Jvm.MethodName)) ∈ lw_all := lw_g (lw_at lw_m5 177 rfl) rfl
theorem q1228 : (Jvm.Cond.selects "RiverGauge" ({ cls := "RiverGauge", name := "feed", desc := "(IJ)I" } : Jvm.MethodName) ({ cls := "RiverGauge", name := "feed", desc := "(IJ)I" } : Jvm.MethodName)) ∈ lw_all := lw_g (lw_at lw_m5 178 rfl) rfl
theorem q1229 : (Jvm.Cond.codeWith ({ cls := "RiverGauge", name := "feed", desc := "(IJ)I" } : Jvm.MethodName) prog_1_method_68_code (5 : Nat) (Option.some Jvm.ClassFile.FieldType.int) [((0 : Nat), (6 : Nat), (7 : Nat), (429 : Nat))]) ∈ lw_all := lw_g (lw_at lw_m5 179 rfl) rfl
theorem q1230 : (Jvm.Cond.methodLink "RiverGauge" (553 : Nat) ({ cls := "RiverGauge", name := "feedIt", desc := "(IJ)I" } : Jvm.MethodName)) ∈ lw_all := lw_g (lw_at lw_m5 180 rfl) rfl
theorem q1231 : (Jvm.Cond.privateMethod ({ cls := "RiverGauge", name := "feedIt", desc := "(IJ)I" } : Jvm.MethodName)) ∈ lw_tbl := lw_at lw_m5 181 rfl
theorem q1232 : (Jvm.Cond.instanceMethod ({ cls := "RiverGauge", name := "feedIt", desc := "(IJ)I" } : Jvm.MethodName)) ∈ lw_all := lw_g (lw_at lw_m5 182 rfl) rfl
theorem q1233 : (Jvm.Cond.code ({ cls := "RiverGauge", name := "feedIt", desc := "(IJ)I" } : Jvm.MethodName) prog_1_method_56_code (5 : Nat) (Option.some Jvm.ClassFile.FieldType.int)) ∈ lw_all := lw_g (lw_at lw_m5 183 rfl) rfl
theorem q1235 : (Jvm.Cond.instanceMethod ({ cls := "RiverGauge", name := "standard", desc := "(II)I" } : Jvm.MethodName)) ∈ lw_all := lw_g (lw_at lw_m5 185 rfl) rfl
theorem q1236 : (Jvm.Cond.selects "RiverGauge" ({ cls := "RiverGauge", name := "standard", desc := "(II)I" } : Jvm.MethodName) ({ cls := "RiverGauge", name := "standard", desc := "(II)I" } : Jvm.MethodName)) ∈ lw_all := lw_g (lw_at lw_m5 186 rfl) rfl
theorem q1237 : (Jvm.Cond.code ({ cls := "RiverGauge", name := "standard", desc := "(II)I" } : Jvm.MethodName) prog_1_method_69_code (3 : Nat) (Option.some Jvm.ClassFile.FieldType.int)) ∈ lw_all := lw_g (lw_at lw_m5 187 rfl) rfl
theorem q1239 : (Jvm.Cond.instanceMethod ({ cls := "RiverGauge", name := "low", desc := "(II)I" } : Jvm.MethodName)) ∈ lw_all := lw_g (lw_at lw_m5 189 rfl) rfl
theorem q1240 : (Jvm.Cond.selects "RiverGauge" ({ cls := "RiverGauge", name := "low", desc := "(II)I" } : Jvm.MethodName) ({ cls := "RiverGauge", name := "low", desc := "(II)I" } : Jvm.MethodName)) ∈ lw_all := lw_g (lw_at lw_m5 190 rfl) rfl
theorem q1241 : (Jvm.Cond.code ({ cls := "RiverGauge", name := "low", desc := "(II)I" } : Jvm.MethodName) prog_1_method_70_code (3 : Nat) (Option.some Jvm.ClassFile.FieldType.int)) ∈ lw_all := lw_g (lw_at lw_m5 191 rfl) rfl
theorem q1243 : (Jvm.Cond.instanceMethod ({ cls := "RiverGauge", name := "stretch", desc := "(II)I" } : Jvm.MethodName)) ∈ lw_all := lw_g (lw_at lw_m5 193 rfl) rfl
theorem q1244 : (Jvm.Cond.selects "RiverGauge" ({ cls := "RiverGauge", name := "stretch", desc := "(II)I" } : Jvm.MethodName) ({ cls := "RiverGauge", name := "stretch", desc := "(II)I" } : Jvm.MethodName)) ∈ lw_all := lw_g (lw_at lw_m5 194 rfl) rfl
theorem q1245 : (Jvm.Cond.code ({ cls := "RiverGauge", name := "stretch", desc := "(II)I" } : Jvm.MethodName) prog_1_method_71_code (3 : Nat) (Option.some Jvm.ClassFile.FieldType.int)) ∈ lw_all := lw_g (lw_at lw_m5 195 rfl) rfl
theorem q1247 : (Jvm.Cond.instanceMethod ({ cls := "RiverGauge", name := "points", desc := "(III)I" } : Jvm.MethodName)) ∈ lw_all := lw_g (lw_at lw_m5 197 rfl) rfl
theorem q1248 : (Jvm.Cond.selects "RiverGauge" ({ cls := "RiverGauge", name := "points", desc := "(III)I" } : Jvm.MethodName) ({ cls := "RiverGauge", name := "points", desc := "(III)I" } : Jvm.MethodName)) ∈ lw_all := lw_g (lw_at lw_m5 198 rfl) rfl
theorem q1249 : (Jvm.Cond.code ({ cls := "RiverGauge", name := "points", desc := "(III)I" } : Jvm.MethodName) prog_1_method_72_code (4 : Nat) (Option.some Jvm.ClassFile.FieldType.int)) ∈ lw_all := lw_g (lw_at lw_m5 199 rfl) rfl
theorem q1251 : (Jvm.Cond.instanceMethod ({ cls := "RiverGauge", name := "point", desc := "(IIIII)I" } : Jvm.MethodName)) ∈ lw_all := lw_g (lw_at lw_m5 201 rfl) rfl
theorem q1252 : (Jvm.Cond.selects "RiverGauge" ({ cls := "RiverGauge", name := "point", desc := "(IIIII)I" } : Jvm.MethodName) ({ cls := "RiverGauge", name := "point", desc := "(IIIII)I" } : Jvm.MethodName)) ∈ lw_all := lw_g (lw_at lw_m5 202 rfl) rfl
theorem q1253 : (Jvm.Cond.code ({ cls := "RiverGauge", name := "point", desc := "(IIIII)I" } : Jvm.MethodName) prog_1_method_73_code (6 : Nat) (Option.some Jvm.ClassFile.FieldType.int)) ∈ lw_all := lw_g (lw_at lw_m5 203 rfl) rfl
theorem q1255 : (Jvm.Cond.instanceMethod ({ cls := "RiverGauge", name := "flowAt", desc := "(III)I" } : Jvm.MethodName)) ∈ lw_all := lw_g (lw_at lw_m5 205 rfl) rfl
theorem q1256 : (Jvm.Cond.selects "RiverGauge" ({ cls := "RiverGauge", name := "flowAt", desc := "(III)I" } : Jvm.MethodName) ({ cls := "RiverGauge", name := "flowAt", desc := "(III)I" } : Jvm.MethodName)) ∈ lw_all := lw_g (lw_at lw_m5 206 rfl) rfl
theorem q1257 : (Jvm.Cond.code ({ cls := "RiverGauge", name := "flowAt", desc := "(III)I" } : Jvm.MethodName) prog_1_method_74_code (4 : Nat) (Option.some Jvm.ClassFile.FieldType.int)) ∈ lw_all := lw_g (lw_at lw_m5 207 rfl) rfl
theorem q1259 : (Jvm.Cond.instanceMethod ({ cls := "RiverGauge", name := "under", desc := "(IIIII)I" } : Jvm.MethodName)) ∈ lw_all := lw_g (lw_at lw_m5 209 rfl) rfl
theorem q1260 : (Jvm.Cond.selects "RiverGauge" ({ cls := "RiverGauge", name := "under", desc := "(IIIII)I" } : Jvm.MethodName) ({ cls := "RiverGauge", name := "under", desc := "(IIIII)I" } : Jvm.MethodName)) ∈ lw_all := lw_g (lw_at lw_m5 210 rfl) rfl
theorem q1261 : (Jvm.Cond.code ({ cls := "RiverGauge", name := "under", desc := "(IIIII)I" } : Jvm.MethodName) prog_1_method_75_code (6 : Nat) (Option.some Jvm.ClassFile.FieldType.int)) ∈ lw_all := lw_g (lw_at lw_m5 211 rfl) rfl
theorem q1263 : (Jvm.Cond.instanceMethod ({ cls := "RiverGauge", name := "flowOf", desc := "(IIII)I" } : Jvm.MethodName)) ∈ lw_all := lw_g (lw_at lw_m5 213 rfl) rfl
theorem q1264 : (Jvm.Cond.selects "RiverGauge" ({ cls := "RiverGauge", name := "flowOf", desc := "(IIII)I" } : Jvm.MethodName) ({ cls := "RiverGauge", name := "flowOf", desc := "(IIII)I" } : Jvm.MethodName)) ∈ lw_all := lw_g (lw_at lw_m5 214 rfl) rfl
theorem q1265 : (Jvm.Cond.code ({ cls := "RiverGauge", name := "flowOf", desc := "(IIII)I" } : Jvm.MethodName) prog_1_method_76_code (5 : Nat) (Option.some Jvm.ClassFile.FieldType.int)) ∈ lw_all := lw_g (lw_at lw_m5 215 rfl) rfl
theorem q1267 : (Jvm.Cond.instanceMethod ({ cls := "RiverGauge", name := "base", desc := "(IIII)I" } : Jvm.MethodName)) ∈ lw_all := lw_g (lw_at lw_m5 217 rfl) rfl
theorem q1268 : (Jvm.Cond.selects "RiverGauge" ({ cls := "RiverGauge", name := "base", desc := "(IIII)I" } : Jvm.MethodName) ({ cls := "RiverGauge", name := "base", desc := "(IIII)I" } : Jvm.MethodName)) ∈ lw_all := lw_g (lw_at lw_m5 218 rfl) rfl
theorem q1269 : (Jvm.Cond.code ({ cls := "RiverGauge", name := "base", desc := "(IIII)I" } : Jvm.MethodName) prog_1_method_77_code (5 : Nat) (Option.some Jvm.ClassFile.FieldType.int)) ∈ lw_all := lw_g (lw_at lw_m5 219 rfl) rfl
theorem q1271 : (Jvm.Cond.instanceMethod ({ cls := "RiverGauge", name := "breaks", desc := "(II)I" } : Jvm.MethodName)) ∈ lw_all := lw_g (lw_at lw_m5 221 rfl) rfl
theorem q1272 : (Jvm.Cond.selects "RiverGauge" ({ cls := "RiverGauge", name := "breaks", desc := "(II)I" } : Jvm.MethodName) ({ cls := "RiverGauge", name := "breaks", desc := "(II)I" } : Jvm.MethodName)) ∈ lw_all := lw_g (lw_at lw_m5 222 rfl) rfl
theorem q1273 : (Jvm.Cond.code ({ cls := "RiverGauge", name := "breaks", desc := "(II)I" } : Jvm.MethodName) prog_1_method_78_code (3 : Nat) (Option.some Jvm.ClassFile.FieldType.int)) ∈ lw_all := lw_g (lw_at lw_m5 223 rfl) rfl
theorem q1275 : (Jvm.Cond.instanceMethod ({ cls := "RiverGauge", name := "shift", desc := "(II)I" } : Jvm.MethodName)) ∈ lw_all := lw_g (lw_at lw_m5 225 rfl) rfl
theorem q1276 : (Jvm.Cond.selects "RiverGauge" ({ cls := "RiverGauge", name := "shift", desc := "(II)I" } : Jvm.MethodName) ({ cls := "RiverGauge", name := "shift", desc := "(II)I" } : Jvm.MethodName)) ∈ lw_all := lw_g (lw_at lw_m5 226 rfl) rfl
theorem q1277 : (Jvm.Cond.code ({ cls := "RiverGauge", name := "shift", desc := "(II)I" } : Jvm.MethodName) prog_1_method_79_code (3 : Nat) (Option.some Jvm.ClassFile.FieldType.int)) ∈ lw_all := lw_g (lw_at lw_m5 227 rfl) rfl
theorem q1279 : (Jvm.Cond.instanceMethod ({ cls := "RiverGauge", name := "put", desc := "(I)I" } : Jvm.MethodName)) ∈ lw_all := lw_g (lw_at lw_m5 229 rfl) rfl
theorem q1280 : (Jvm.Cond.selects "RiverGauge" ({ cls := "RiverGauge", name := "put", desc := "(I)I" } : Jvm.MethodName) ({ cls := "RiverGauge", name := "put", desc := "(I)I" } : Jvm.MethodName)) ∈ lw_all := lw_g (lw_at lw_m5 230 rfl) rfl
theorem q1281 : (Jvm.Cond.code ({ cls := "RiverGauge", name := "put", desc := "(I)I" } : Jvm.MethodName) prog_1_method_80_code (2 : Nat) (Option.some Jvm.ClassFile.FieldType.int)) ∈ lw_all := lw_g (lw_at lw_m5 231 rfl) rfl
theorem q1283 : (Jvm.Cond.instanceMethod ({ cls := "RiverGauge", name := "judge", desc := "(I)I" } : Jvm.MethodName)) ∈ lw_all := lw_g (lw_at lw_m5 233 rfl) rfl
theorem q1284 : (Jvm.Cond.selects "RiverGauge" ({ cls := "RiverGauge", name := "judge", desc := "(I)I" } : Jvm.MethodName) ({ cls := "RiverGauge", name := "judge", desc := "(I)I" } : Jvm.MethodName)) ∈ lw_all := lw_g (lw_at lw_m5 234 rfl) rfl
theorem q1285 : (Jvm.Cond.code ({ cls := "RiverGauge", name := "judge", desc := "(I)I" } : Jvm.MethodName) prog_1_method_81_code (2 : Nat) (Option.some Jvm.ClassFile.FieldType.int)) ∈ lw_all := lw_g (lw_at lw_m5 235 rfl) rfl
theorem q1287 : (Jvm.Cond.instanceMethod ({ cls := "RiverGauge", name := "beside", desc := "(II)I" } : Jvm.MethodName)) ∈ lw_all := lw_g (lw_at lw_m5 237 rfl) rfl
theorem q1288 : (Jvm.Cond.selects "RiverGauge" ({ cls := "RiverGauge", name := "beside", desc := "(II)I" } : Jvm.MethodName) ({ cls := "RiverGauge", name := "beside", desc := "(II)I" } : Jvm.MethodName)) ∈ lw_all := lw_g (lw_at lw_m5 238 rfl) rfl
theorem q1289 : (Jvm.Cond.code ({ cls := "RiverGauge", name := "beside", desc := "(II)I" } : Jvm.MethodName) prog_1_method_82_code (3 : Nat) (Option.some Jvm.ClassFile.FieldType.int)) ∈ lw_all := lw_g (lw_at lw_m5 239 rfl) rfl
theorem q1291 : (Jvm.Cond.instanceMethod ({ cls := "RiverGauge", name := "gap", desc := "(III)I" } : Jvm.MethodName)) ∈ lw_all := lw_g (lw_at lw_m6 1 rfl) rfl
theorem q1292 : (Jvm.Cond.selects "RiverGauge" ({ cls := "RiverGauge", name := "gap", desc := "(III)I" } : Jvm.MethodName) ({ cls := "RiverGauge", name := "gap", desc := "(III)I" } : Jvm.MethodName)) ∈ lw_all := lw_g (lw_at lw_m6 2 rfl) rfl
theorem q1293 : (Jvm.Cond.code ({ cls := "RiverGauge", name := "gap", desc := "(III)I" } : Jvm.MethodName) prog_1_method_83_code (4 : Nat) (Option.some Jvm.ClassFile.FieldType.int)) ∈ lw_all := lw_g (lw_at lw_m6 3 rfl) rfl
theorem q1295 : (Jvm.Cond.instanceMethod ({ cls := "RiverGauge", name := "peak", desc := "(IIII)I" } : Jvm.MethodName)) ∈ lw_all := lw_g (lw_at lw_m6 5 rfl) rfl
theorem q1296 : (Jvm.Cond.selects "RiverGauge" ({ cls := "RiverGauge", name := "peak", desc := "(IIII)I" } : Jvm.MethodName) ({ cls := "RiverGauge", name := "peak", desc := "(IIII)I" } : Jvm.MethodName)) ∈ lw_all := lw_g (lw_at lw_m6 6 rfl) rfl
theorem q1297 : (Jvm.Cond.code ({ cls := "RiverGauge", name := "peak", desc := "(IIII)I" } : Jvm.MethodName) prog_1_method_84_code (5 : Nat) (Option.some Jvm.ClassFile.FieldType.int)) ∈ lw_all := lw_g (lw_at lw_m6 7 rfl) rfl
theorem q1299 : (Jvm.Cond.instanceMethod ({ cls := "RiverGauge", name := "often", desc := "(II)I" } : Jvm.MethodName)) ∈ lw_all := lw_g (lw_at lw_m6 9 rfl) rfl
theorem q1300 : (Jvm.Cond.selects "RiverGauge" ({ cls := "RiverGauge", name := "often", desc := "(II)I" } : Jvm.MethodName) ({ cls := "RiverGauge", name := "often", desc := "(II)I" } : Jvm.MethodName)) ∈ lw_all := lw_g (lw_at lw_m6 10 rfl) rfl
theorem q1301 : (Jvm.Cond.code ({ cls := "RiverGauge", name := "often", desc := "(II)I" } : Jvm.MethodName) prog_1_method_85_code (3 : Nat) (Option.some Jvm.ClassFile.FieldType.int)) ∈ lw_all := lw_g (lw_at lw_m6 11 rfl) rfl
theorem q1303 : (Jvm.Cond.instanceMethod ({ cls := "RiverGauge", name := "agree", desc := "(IIIII)I" } : Jvm.MethodName)) ∈ lw_all := lw_g (lw_at lw_m6 13 rfl) rfl
theorem q1304 : (Jvm.Cond.selects "RiverGauge" ({ cls := "RiverGauge", name := "agree", desc := "(IIIII)I" } : Jvm.MethodName) ({ cls := "RiverGauge", name := "agree", desc := "(IIIII)I" } : Jvm.MethodName)) ∈ lw_all := lw_g (lw_at lw_m6 14 rfl) rfl
theorem q1305 : (Jvm.Cond.code ({ cls := "RiverGauge", name := "agree", desc := "(IIIII)I" } : Jvm.MethodName) prog_1_method_86_code (6 : Nat) (Option.some Jvm.ClassFile.FieldType.int)) ∈ lw_all := lw_g (lw_at lw_m6 15 rfl) rfl
theorem q1307 : (Jvm.Cond.instanceMethod ({ cls := "RiverGauge", name := "next", desc := "(I)I" } : Jvm.MethodName)) ∈ lw_all := lw_g (lw_at lw_m6 17 rfl) rfl
theorem q1308 : (Jvm.Cond.selects "RiverGauge" ({ cls := "RiverGauge", name := "next", desc := "(I)I" } : Jvm.MethodName) ({ cls := "RiverGauge", name := "next", desc := "(I)I" } : Jvm.MethodName)) ∈ lw_all := lw_g (lw_at lw_m6 18 rfl) rfl
theorem q1309 : (Jvm.Cond.code ({ cls := "RiverGauge", name := "next", desc := "(I)I" } : Jvm.MethodName) prog_1_method_87_code (2 : Nat) (Option.some Jvm.ClassFile.FieldType.int)) ∈ lw_all := lw_g (lw_at lw_m6 19 rfl) rfl
theorem q1311 : (Jvm.Cond.instanceMethod ({ cls := "RiverGauge", name := "publish", desc := "(II)I" } : Jvm.MethodName)) ∈ lw_all := lw_g (lw_at lw_m6 21 rfl) rfl
theorem q1312 : (Jvm.Cond.selects "RiverGauge" ({ cls := "RiverGauge", name := "publish", desc := "(II)I" } : Jvm.MethodName) ({ cls := "RiverGauge", name := "publish", desc := "(II)I" } : Jvm.MethodName)) ∈ lw_all := lw_g (lw_at lw_m6 22 rfl) rfl
theorem q1313 : (Jvm.Cond.code ({ cls := "RiverGauge", name := "publish", desc := "(II)I" } : Jvm.MethodName) prog_1_method_88_code (3 : Nat) (Option.some Jvm.ClassFile.FieldType.int)) ∈ lw_all := lw_g (lw_at lw_m6 23 rfl) rfl
theorem q1315 : (Jvm.Cond.instanceMethod ({ cls := "RiverGauge", name := "published", desc := "(II)I" } : Jvm.MethodName)) ∈ lw_all := lw_g (lw_at lw_m6 25 rfl) rfl
theorem q1316 : (Jvm.Cond.selects "RiverGauge" ({ cls := "RiverGauge", name := "published", desc := "(II)I" } : Jvm.MethodName) ({ cls := "RiverGauge", name := "published", desc := "(II)I" } : Jvm.MethodName)) ∈ lw_all := lw_g (lw_at lw_m6 26 rfl) rfl
theorem q1317 : (Jvm.Cond.code ({ cls := "RiverGauge", name := "published", desc := "(II)I" } : Jvm.MethodName) prog_1_method_89_code (3 : Nat) (Option.some Jvm.ClassFile.FieldType.int)) ∈ lw_all := lw_g (lw_at lw_m6 27 rfl) rfl
theorem q1319 : (Jvm.Cond.instanceMethod ({ cls := "RiverGauge", name := "mend", desc := "()I" } : Jvm.MethodName)) ∈ lw_all := lw_g (lw_at lw_m6 29 rfl) rfl
theorem q1320 : (Jvm.Cond.selects "RiverGauge" ({ cls := "RiverGauge", name := "mend", desc := "()I" } : Jvm.MethodName) ({ cls := "RiverGauge", name := "mend", desc := "()I" } : Jvm.MethodName)) ∈ lw_all := lw_g (lw_at lw_m6 30 rfl) rfl
theorem q1321 : (Jvm.Cond.code ({ cls := "RiverGauge", name := "mend", desc := "()I" } : Jvm.MethodName) prog_1_method_90_code (1 : Nat) (Option.some Jvm.ClassFile.FieldType.int)) ∈ lw_all := lw_g (lw_at lw_m6 31 rfl) rfl
theorem q1323 : (Jvm.Cond.instanceMethod ({ cls := "RiverGauge", name := "limit", desc := "(I)I" } : Jvm.MethodName)) ∈ lw_all := lw_g (lw_at lw_m6 33 rfl) rfl
theorem q1324 : (Jvm.Cond.selects "RiverGauge" ({ cls := "RiverGauge", name := "limit", desc := "(I)I" } : Jvm.MethodName) ({ cls := "RiverGauge", name := "limit", desc := "(I)I" } : Jvm.MethodName)) ∈ lw_all := lw_g (lw_at lw_m6 34 rfl) rfl
theorem q1325 : (Jvm.Cond.code ({ cls := "RiverGauge", name := "limit", desc := "(I)I" } : Jvm.MethodName) prog_1_method_91_code (2 : Nat) (Option.some Jvm.ClassFile.FieldType.int)) ∈ lw_all := lw_g (lw_at lw_m6 35 rfl) rfl
theorem q1327 : (Jvm.Cond.instanceMethod ({ cls := "RiverGauge", name := "count", desc := "(I)I" } : Jvm.MethodName)) ∈ lw_all := lw_g (lw_at lw_m6 37 rfl) rfl
theorem q1328 : (Jvm.Cond.selects "RiverGauge" ({ cls := "RiverGauge", name := "count", desc := "(I)I" } : Jvm.MethodName) ({ cls := "RiverGauge", name := "count", desc := "(I)I" } : Jvm.MethodName)) ∈ lw_all := lw_g (lw_at lw_m6 38 rfl) rfl
theorem q1329 : (Jvm.Cond.code ({ cls := "RiverGauge", name := "count", desc := "(I)I" } : Jvm.MethodName) prog_1_method_92_code (4 : Nat) (Option.some Jvm.ClassFile.FieldType.int)) ∈ lw_all := lw_g (lw_at lw_m6 39 rfl) rfl
theorem q1330 : (Jvm.Cond.constantLong "RiverGauge" (557 : Nat) (11 : Int64)) ∈ lw_all := lw_g (lw_at lw_m6 40 rfl) rfl
theorem q1331 : (Jvm.Cond.constantLong "RiverGauge" (559 : Nat) (16 : Int64)) ∈ lw_all := lw_g (lw_at lw_m6 41 rfl) rfl
theorem in_X0 : ∀ w ∈ wsX00, w ∈ lw_all := lw_in wsX00 [207, 209, 211, 213, 215, 217, 219, 221, 223, 225, 227, 229, 231, 233, 235, 237, 239, 241, 243, 245, 247, 249, 251, 253, 255, 257, 259, 261, 263, 265, 267, 269, 271, 273, 275, 277, 279, 281, 283, 285, 287, 289, 291, 293, 295, 297, 299, 301] (by decide +kernel) (by decide +kernel)

/-! java/lang/String -/
set_option maxRecDepth 100000
def RJ0 : String := "java/lang/String"
abbrev cJ0_length : ByteArray := prog_32_method_54_code
def yJ0_length : MethodName := ⟨RJ0, "length", "()I"⟩
abbrev cJ0_coder : ByteArray := prog_32_method_152_code
def yJ0_coder : MethodName := ⟨RJ0, "coder", "()B"⟩
abbrev cJ0_indexOf : ByteArray := prog_32_method_79_code
def yJ0_indexOf : MethodName := ⟨RJ0, "indexOf", "(I)I"⟩
abbrev cJ0_indexOf_2 : ByteArray := prog_32_method_80_code
def yJ0_indexOf_2 : MethodName := ⟨RJ0, "indexOf", "(II)I"⟩
abbrev cJ0_isLatin1 : ByteArray := prog_32_method_154_code
def yJ0_isLatin1 : MethodName := ⟨RJ0, "isLatin1", "()Z"⟩
abbrev cJ0_checkBoundsBeginEnd : ByteArray := prog_32_method_158_code
def yJ0_checkBoundsBeginEnd : MethodName := ⟨RJ0, "checkBoundsBeginEnd", "(III)V"⟩
theorem q92 : (Jvm.Cond.initialized "java/lang/String") ∈ lw_all := lw_g (lw_at lw_m1 2 rfl) rfl
theorem q150 : (Jvm.Cond.instanceMethod ({ cls := "java/lang/String", name := "length", desc := "()I" } : Jvm.MethodName)) ∈ lw_all := lw_g (lw_at lw_m1 60 rfl) rfl
theorem q151 : (Jvm.Cond.selects "java/lang/String" ({ cls := "java/lang/String", name := "length", desc := "()I" } : Jvm.MethodName) ({ cls := "java/lang/String", name := "length", desc := "()I" } : Jvm.MethodName)) ∈ lw_all := lw_g (lw_at lw_m1 61 rfl) rfl
theorem q152 : (Jvm.Cond.code ({ cls := "java/lang/String", name := "length", desc := "()I" } : Jvm.MethodName) prog_32_method_54_code (1 : Nat) (Option.some Jvm.ClassFile.FieldType.int)) ∈ lw_all := lw_g (lw_at lw_m1 62 rfl) rfl
theorem q153 : (Jvm.Cond.methodLink "java/lang/String" (335 : Nat) ({ cls := "java/lang/String", name := "coder", desc := "()B" } : Jvm.MethodName)) ∈ lw_all := lw_g (lw_at lw_m1 63 rfl) rfl
theorem q154 : (Jvm.Cond.instanceMethod ({ cls := "java/lang/String", name := "coder", desc := "()B" } : Jvm.MethodName)) ∈ lw_all := lw_g (lw_at lw_m1 64 rfl) rfl
theorem q155 : (Jvm.Cond.selects "java/lang/String" ({ cls := "java/lang/String", name := "coder", desc := "()B" } : Jvm.MethodName) ({ cls := "java/lang/String", name := "coder", desc := "()B" } : Jvm.MethodName)) ∈ lw_all := lw_g (lw_at lw_m1 65 rfl) rfl
theorem q156 : (Jvm.Cond.code ({ cls := "java/lang/String", name := "coder", desc := "()B" } : Jvm.MethodName) prog_32_method_152_code (1 : Nat) (Option.some Jvm.ClassFile.FieldType.byte)) ∈ lw_all := lw_g (lw_at lw_m1 66 rfl) rfl
theorem q157 : (Jvm.Cond.fieldLink "java/lang/String" (38 : Nat) "java/lang/String" "COMPACT_STRINGS" "Z") ∈ lw_all := lw_g (lw_at lw_m1 67 rfl) rfl
theorem q158 : (Jvm.Cond.laysStatic "java/lang/String" "COMPACT_STRINGS" "Z") ∈ lw_tbl := lw_at lw_m1 68 rfl
theorem q714 : (Jvm.Cond.instanceMethod ({ cls := "java/lang/String", name := "indexOf", desc := "(I)I" } : Jvm.MethodName)) ∈ lw_all := lw_g (lw_at lw_m3 144 rfl) rfl
theorem q715 : (Jvm.Cond.selects "java/lang/String" ({ cls := "java/lang/String", name := "indexOf", desc := "(I)I" } : Jvm.MethodName) ({ cls := "java/lang/String", name := "indexOf", desc := "(I)I" } : Jvm.MethodName)) ∈ lw_all := lw_g (lw_at lw_m3 145 rfl) rfl
theorem q716 : (Jvm.Cond.code ({ cls := "java/lang/String", name := "indexOf", desc := "(I)I" } : Jvm.MethodName) prog_32_method_79_code (2 : Nat) (Option.some Jvm.ClassFile.FieldType.int)) ∈ lw_all := lw_g (lw_at lw_m3 146 rfl) rfl
theorem q717 : (Jvm.Cond.methodLink "java/lang/String" (633 : Nat) ({ cls := "java/lang/String", name := "indexOf", desc := "(II)I" } : Jvm.MethodName)) ∈ lw_all := lw_g (lw_at lw_m3 147 rfl) rfl
theorem q718 : (Jvm.Cond.instanceMethod ({ cls := "java/lang/String", name := "indexOf", desc := "(II)I" } : Jvm.MethodName)) ∈ lw_all := lw_g (lw_at lw_m3 148 rfl) rfl
theorem q719 : (Jvm.Cond.selects "java/lang/String" ({ cls := "java/lang/String", name := "indexOf", desc := "(II)I" } : Jvm.MethodName) ({ cls := "java/lang/String", name := "indexOf", desc := "(II)I" } : Jvm.MethodName)) ∈ lw_all := lw_g (lw_at lw_m3 149 rfl) rfl
theorem q720 : (Jvm.Cond.code ({ cls := "java/lang/String", name := "indexOf", desc := "(II)I" } : Jvm.MethodName) prog_32_method_80_code (3 : Nat) (Option.some Jvm.ClassFile.FieldType.int)) ∈ lw_all := lw_g (lw_at lw_m3 150 rfl) rfl
theorem q721 : (Jvm.Cond.methodLink "java/lang/String" (492 : Nat) ({ cls := "java/lang/String", name := "isLatin1", desc := "()Z" } : Jvm.MethodName)) ∈ lw_all := lw_g (lw_at lw_m3 151 rfl) rfl
theorem q722 : (Jvm.Cond.instanceMethod ({ cls := "java/lang/String", name := "isLatin1", desc := "()Z" } : Jvm.MethodName)) ∈ lw_all := lw_g (lw_at lw_m3 152 rfl) rfl
theorem q723 : (Jvm.Cond.selects "java/lang/String" ({ cls := "java/lang/String", name := "isLatin1", desc := "()Z" } : Jvm.MethodName) ({ cls := "java/lang/String", name := "isLatin1", desc := "()Z" } : Jvm.MethodName)) ∈ lw_all := lw_g (lw_at lw_m3 153 rfl) rfl
theorem q724 : (Jvm.Cond.code ({ cls := "java/lang/String", name := "isLatin1", desc := "()Z" } : Jvm.MethodName) prog_32_method_154_code (1 : Nat) (Option.some Jvm.ClassFile.FieldType.boolean)) ∈ lw_all := lw_g (lw_at lw_m3 154 rfl) rfl
theorem q725 : (Jvm.Cond.methodLink "java/lang/String" (505 : Nat) ({ cls := "java/lang/String", name := "length", desc := "()I" } : Jvm.MethodName)) ∈ lw_all := lw_g (lw_at lw_m3 155 rfl) rfl
theorem q726 : (Jvm.Cond.methodLink "java/lang/String" (637 : Nat) ({ cls := "java/lang/StringLatin1", name := "indexOf", desc := "([BIII)I" } : Jvm.MethodName)) ∈ lw_all := lw_g (lw_at lw_m3 156 rfl) rfl
theorem q741 : (Jvm.Cond.methodLink "java/lang/String" (640 : Nat) ({ cls := "java/lang/StringUTF16", name := "indexOf", desc := "([BIII)I" } : Jvm.MethodName)) ∈ lw_all := lw_g (lw_at lw_m3 171 rfl) rfl
theorem q757 : (Jvm.Cond.static ({ cls := "java/lang/String", name := "checkBoundsBeginEnd", desc := "(III)V" } : Jvm.MethodName)) ∈ lw_all := lw_g (lw_at lw_m3 187 rfl) rfl
theorem q758 : (Jvm.Cond.code ({ cls := "java/lang/String", name := "checkBoundsBeginEnd", desc := "(III)V" } : Jvm.MethodName) prog_32_method_158_code (3 : Nat) (Option.none : Option Jvm.ClassFile.FieldType)) ∈ lw_all := lw_g (lw_at lw_m3 188 rfl) rfl
theorem q759 : (Jvm.Cond.fieldLink "java/lang/String" (1053 : Nat) "jdk/internal/util/Preconditions" "SIOOBE_FORMATTER" "Ljava/util/function/BiFunction;") ∈ lw_all := lw_g (lw_at lw_m3 189 rfl) rfl
theorem q761 : (Jvm.Cond.methodLink "java/lang/String" (1062 : Nat) ({ cls := "jdk/internal/util/Preconditions", name := "checkFromToIndex", desc := "(IIILjava/util/function/BiFunction;)I" } : Jvm.MethodName)) ∈ lw_all := lw_g (lw_at lw_m3 191 rfl) rfl
theorem q1910 : (Jvm.Cond.fieldLink "java/lang/String" (9 : Nat) "java/lang/String" "value" "[B") ∈ lw_all := lw_g (lw_at lw_m8 140 rfl) rfl
theorem q1911 : (Jvm.Cond.fieldLink "java/lang/String" (15 : Nat) "java/lang/String" "coder" "B") ∈ lw_all := lw_g (lw_at lw_m8 141 rfl) rfl

/-! RiverGaugeModel -/
set_option maxRecDepth 100000
def RX1 : String := "RiverGaugeModel"
def TX1 : u_T := fun k => match k with
  | 0 => ("RiverGaugeModel", "now", "I", false)
  | 1 => ("RiverGaugeModel", "posts", "I", false)
  | 2 => ("RiverGaugeModel", "zeros", "I", false)
  | 3 => ("RiverGaugeModel", "heights", "I", false)
  | 4 => ("RiverGaugeModel", "flows", "I", false)
  | 5 => ("RiverGaugeModel", "standards", "I", false)
  | 6 => ("RiverGaugeModel", "unders", "I", false)
  | 7 => ("RiverGaugeModel", "publishedN", "I", false)
  | 8 => ("RiverGaugeModel", "tapeN", "I", false)
  | 9 => ("RiverGaugeModel", "rowN", "I", false)
  | 10 => ("RiverGaugeModel", "limit", "I", false)
  | 11 => ("RiverGaugeModel", "stamp", "I", false)
  | 12 => ("RiverGaugeModel", "zero", "[I", true)
  | 13 => ("RiverGaugeModel", "low", "[I", true)
  | 14 => ("RiverGaugeModel", "beside", "[I", true)
  | 15 => ("RiverGaugeModel", "stretches", "[I", true)
  | 16 => ("RiverGaugeModel", "bases", "[I", true)
  | 17 => ("RiverGaugeModel", "stretchFrom", "[I", true)
  | 18 => ("RiverGaugeModel", "baseHeight", "[I", true)
  | 19 => ("RiverGaugeModel", "baseFlow", "[I", true)
  | 20 => ("RiverGaugeModel", "zPost", "[I", true)
  | 21 => ("RiverGaugeModel", "zZero", "[I", true)
  | 22 => ("RiverGaugeModel", "zFrom", "[I", true)
  | 23 => ("RiverGaugeModel", "zKnown", "[I", true)
  | 24 => ("RiverGaugeModel", "hPost", "[I", true)
  | 25 => ("RiverGaugeModel", "hTime", "[I", true)
  | 26 => ("RiverGaugeModel", "hKind", "[I", true)
  | 27 => ("RiverGaugeModel", "hRead", "[I", true)
  | 28 => ("RiverGaugeModel", "hKnown", "[I", true)
  | 29 => ("RiverGaugeModel", "hStruck", "[I", true)
  | 30 => ("RiverGaugeModel", "fPost", "[I", true)
  | 31 => ("RiverGaugeModel", "fTime", "[I", true)
  | 32 => ("RiverGaugeModel", "fNumber", "[I", true)
  | 33 => ("RiverGaugeModel", "fWrong", "[I", true)
  | 34 => ("RiverGaugeModel", "fKnown", "[I", true)
  | 35 => ("RiverGaugeModel", "fStruck", "[I", true)
  | 36 => ("RiverGaugeModel", "uPost", "[I", true)
  | 37 => ("RiverGaugeModel", "uKind", "[I", true)
  | 38 => ("RiverGaugeModel", "uFrom", "[I", true)
  | 39 => ("RiverGaugeModel", "uTo", "[I", true)
  | 40 => ("RiverGaugeModel", "uMany", "[I", true)
  | 41 => ("RiverGaugeModel", "uKnown", "[I", true)
  | 42 => ("RiverGaugeModel", "sPurpose", "[I", true)
  | 43 => ("RiverGaugeModel", "sDay", "[I", true)
  | 44 => ("RiverGaugeModel", "sTold", "[I", true)
  | 45 => ("RiverGaugeModel", "sN", "[I", true)
  | 46 => ("RiverGaugeModel", "steps", "[I", true)
  | 47 => ("RiverGaugeModel", "pPost", "[I", true)
  | 48 => ("RiverGaugeModel", "pTime", "[I", true)
  | 49 => ("RiverGaugeModel", "pTold", "[I", true)
  | 50 => ("RiverGaugeModel", "tape", "[I", true)
  | 51 => ("RiverGaugeModel", "row", "[I", true)
  | 52 => ("RiverGaugeModel", "refused", "[I", true)
  | 53 => ("RiverGaugeModel", "letters", "[J", true)
  | 54 => ("RiverGaugeModel", "found", "I", false)
  | 55 => ("RiverGaugeModel", "ops", "[I", true)
  | 56 => ("RiverGaugeModel", "newSteps", "[I", true)
  | 57 => ("RiverGaugeModel", "at", "I", false)
  | 58 => ("RiverGaugeModel", "stepN", "I", false)
  | 59 => ("RiverGaugeModel", "opsN", "I", false)
  | 60 => ("RiverGaugeModel", "deep", "I", false)
  | 61 => ("RiverGaugeModel", "stack", "[J", true)
  | 62 => ("RiverGaugeModel", "builtPost", "I", false)
  | 63 => ("RiverGaugeModel", "builtFrom", "I", false)
  | 64 => ("RiverGaugeModel", "builtTo", "I", false)
  | 65 => ("RiverGaugeModel", "builtKnown", "I", false)
  | 66 => ("RiverGaugeModel", "builtStamp", "I", false)
  | 67 => ("RiverGaugeModel", "pointN", "I", false)
  | 68 => ("RiverGaugeModel", "wrongest", "I", false)
  | 69 => ("RiverGaugeModel", "pointHeight", "[I", true)
  | 70 => ("RiverGaugeModel", "pointFlow", "[I", true)
  | 71 => ("RiverGaugeModel", "pointMany", "[I", true)
  | 72 => ("RiverGaugeModel", "block", "[I", true)
  | 73 => ("RiverGaugeModel", "blockMany", "[I", true)
  | 74 => ("RiverGaugeModel", "pointSum", "[J", true)
  | 75 => ("RiverGaugeModel", "blockSum", "[J", true)
  | 76 => ("RiverGaugeModel", "isBeyond", "Z", false)
  | 77 => ("RiverGaugeModel", "isUnder", "Z", false)
  | 78 => ("RiverGaugeModel", "reckoned", "I", false)
  | 79 => ("RiverGaugeModel", "wrong", "I", false)
  | 80 => ("RiverGaugeModel", "runN", "I", false)
  | 81 => ("RiverGaugeModel", "runFlow", "[I", true)
  | 82 => ("RiverGaugeModel", "runHeight", "[I", true)
  | 83 => ("RiverGaugeModel", "shifts", "[I", true)
  | 84 => ("RiverGaugeModel", "fewest", "I", false)
  | 85 => ("RiverGaugeModel", "rivals", "I", false)
  | 86 => ("RiverGaugeModel", "least", "I", false)
  | 87 => ("RiverGaugeModel", "ones", "[I", true)
  | _ => ("RiverGaugeModel", "others", "[I", true)
def tyX1 : Nat → FieldType := fun k => match k with
  | 0 => .int
  | 1 => .int
  | 2 => .int
  | 3 => .int
  | 4 => .int
  | 5 => .int
  | 6 => .int
  | 7 => .int
  | 8 => .int
  | 9 => .int
  | 10 => .int
  | 11 => .int
  | 12 => .array .int
  | 13 => .array .int
  | 14 => .array .int
  | 15 => .array .int
  | 16 => .array .int
  | 17 => .array .int
  | 18 => .array .int
  | 19 => .array .int
  | 20 => .array .int
  | 21 => .array .int
  | 22 => .array .int
  | 23 => .array .int
  | 24 => .array .int
  | 25 => .array .int
  | 26 => .array .int
  | 27 => .array .int
  | 28 => .array .int
  | 29 => .array .int
  | 30 => .array .int
  | 31 => .array .int
  | 32 => .array .int
  | 33 => .array .int
  | 34 => .array .int
  | 35 => .array .int
  | 36 => .array .int
  | 37 => .array .int
  | 38 => .array .int
  | 39 => .array .int
  | 40 => .array .int
  | 41 => .array .int
  | 42 => .array .int
  | 43 => .array .int
  | 44 => .array .int
  | 45 => .array .int
  | 46 => .array .int
  | 47 => .array .int
  | 48 => .array .int
  | 49 => .array .int
  | 50 => .array .int
  | 51 => .array .int
  | 52 => .array .int
  | 53 => .array .long
  | 54 => .int
  | 55 => .array .int
  | 56 => .array .int
  | 57 => .int
  | 58 => .int
  | 59 => .int
  | 60 => .int
  | 61 => .array .long
  | 62 => .int
  | 63 => .int
  | 64 => .int
  | 65 => .int
  | 66 => .int
  | 67 => .int
  | 68 => .int
  | 69 => .array .int
  | 70 => .array .int
  | 71 => .array .int
  | 72 => .array .int
  | 73 => .array .int
  | 74 => .array .long
  | 75 => .array .long
  | 76 => .boolean
  | 77 => .boolean
  | 78 => .int
  | 79 => .int
  | 80 => .int
  | 81 => .array .int
  | 82 => .array .int
  | 83 => .array .int
  | 84 => .int
  | 85 => .int
  | 86 => .int
  | 87 => .array .int
  | _ => .array .int
abbrev wsX10 : List Cond := u_ws RX1 TX1 89
set_option maxRecDepth 100000 in
theorem nmX1 : ∀ a, a < 89 → ∀ b, b < 89 → a ≠ b → (TX1 a).2.1 ≠ (TX1 b).2.1 := by decide +kernel
set_option maxRecDepth 100000 in
theorem tyX1_ok : ∀ k, k < 89 → parseFieldDescriptor (TX1 k).2.2.1 = some (tyX1 k) := by decide +kernel
abbrev cX1_init : ByteArray := prog_27_method_1_code
def yX1_init : MethodName := ⟨RX1, "<init>", "()V"⟩
abbrev cX1_go : ByteArray := prog_27_method_6_code
def yX1_go : MethodName := ⟨RX1, "go", "(I)I"⟩
abbrev cX1_no : ByteArray := prog_27_method_2_code
def yX1_no : MethodName := ⟨RX1, "no", "(I)I"⟩
abbrev cX1_post : ByteArray := prog_27_method_7_code
def yX1_post : MethodName := ⟨RX1, "post", "(I)I"⟩
abbrev cX1_moved : ByteArray := prog_27_method_8_code
def yX1_moved : MethodName := ⟨RX1, "moved", "(III)I"⟩
abbrev cX1_isPost : ByteArray := prog_27_method_4_code
def yX1_isPost : MethodName := ⟨RX1, "isPost", "(I)Z"⟩
abbrev cX1_zeroAt : ByteArray := prog_27_method_10_code
def yX1_zeroAt : MethodName := ⟨RX1, "zeroAt", "(III)I"⟩
abbrev cX1_times : ByteArray := prog_27_method_5_code
def yX1_times : MethodName := ⟨RX1, "times", "(II)I"⟩
abbrev cX1_far : ByteArray := prog_27_method_3_code
def yX1_far : MethodName := ⟨RX1, "far", "(I)I"⟩
abbrev cX1_zeroOf : ByteArray := prog_27_method_9_code
def yX1_zeroOf : MethodName := ⟨RX1, "zeroOf", "(III)I"⟩
abbrev cX1_height : ByteArray := prog_27_method_11_code
def yX1_height : MethodName := ⟨RX1, "height", "(IIII)I"⟩
abbrev cX1_strike : ByteArray := prog_27_method_12_code
def yX1_strike : MethodName := ⟨RX1, "strike", "(I)I"⟩
abbrev cX1_isStruck : ByteArray := prog_27_method_18_code
def yX1_isStruck : MethodName := ⟨RX1, "isStruck", "(II)I"⟩
abbrev cX1_isTold : ByteArray := prog_27_method_13_code
def yX1_isTold : MethodName := ⟨RX1, "isTold", "(II)Z"⟩
abbrev cX1_isByStandard : ByteArray := prog_27_method_17_code
def yX1_isByStandard : MethodName := ⟨RX1, "isByStandard", "(II)Z"⟩
abbrev cX1_inForce : ByteArray := prog_27_method_16_code
def yX1_inForce : MethodName := ⟨RX1, "inForce", "(III)I"⟩
abbrev cX1_ahead : ByteArray := prog_27_method_14_code
def yX1_ahead : MethodName := ⟨RX1, "ahead", "(II)I"⟩
abbrev cX1_lays : ByteArray := prog_27_method_15_code
def yX1_lays : MethodName := ⟨RX1, "lays", "(I)V"⟩
abbrev cX1_says : ByteArray := prog_27_method_37_code
def yX1_says : MethodName := ⟨RX1, "says", "(I)Z"⟩
abbrev cX1_held : ByteArray := prog_27_method_36_code
def yX1_held : MethodName := ⟨RX1, "held", "(J)J"⟩
abbrev cX1_heightAt : ByteArray := prog_27_method_21_code
def yX1_heightAt : MethodName := ⟨RX1, "heightAt", "(III)I"⟩
abbrev cX1_has : ByteArray := prog_27_method_20_code
def yX1_has : MethodName := ⟨RX1, "has", "(III)Z"⟩
abbrev cX1_which : ByteArray := prog_27_method_19_code
def yX1_which : MethodName := ⟨RX1, "which", "(III)I"⟩
abbrev cX1_measure : ByteArray := prog_27_method_22_code
def yX1_measure : MethodName := ⟨RX1, "measure", "(IIII)I"⟩
abbrev cX1_drop : ByteArray := prog_27_method_23_code
def yX1_drop : MethodName := ⟨RX1, "drop", "(I)I"⟩
abbrev cX1_counts : ByteArray := prog_27_method_25_code
def yX1_counts : MethodName := ⟨RX1, "counts", "(II)I"⟩
abbrev cX1_isIn : ByteArray := prog_27_method_24_code
def yX1_isIn : MethodName := ⟨RX1, "isIn", "(II)Z"⟩
abbrev cX1_feed : ByteArray := prog_27_method_26_code
def yX1_feed : MethodName := ⟨RX1, "feed", "(IJ)I"⟩
abbrev cX1_standard : ByteArray := prog_27_method_35_code
def yX1_standard : MethodName := ⟨RX1, "standard", "(II)I"⟩
abbrev cX1_isText : ByteArray := prog_27_method_34_code
def yX1_isText : MethodName := ⟨RX1, "isText", "()Z"⟩
abbrev cX1_sign : ByteArray := prog_27_method_27_code
def yX1_sign : MethodName := ⟨RX1, "sign", "()I"⟩
abbrev cX1_isTest : ByteArray := prog_27_method_31_code
def yX1_isTest : MethodName := ⟨RX1, "isTest", "()Z"⟩
abbrev cX1_isSum : ByteArray := prog_27_method_30_code
def yX1_isSum : MethodName := ⟨RX1, "isSum", "()Z"⟩
abbrev cX1_isUnit : ByteArray := prog_27_method_29_code
def yX1_isUnit : MethodName := ⟨RX1, "isUnit", "()Z"⟩
abbrev cX1_isLetter : ByteArray := prog_27_method_28_code
def yX1_isLetter : MethodName := ⟨RX1, "isLetter", "(I)Z"⟩
abbrev cX1_denies : ByteArray := prog_27_method_32_code
def yX1_denies : MethodName := ⟨RX1, "denies", "()V"⟩
abbrev cX1_pops : ByteArray := prog_27_method_33_code
def yX1_pops : MethodName := ⟨RX1, "pops", "(Z)V"⟩
abbrev cX1_low : ByteArray := prog_27_method_38_code
def yX1_low : MethodName := ⟨RX1, "low", "(II)I"⟩
abbrev cX1_stretch : ByteArray := prog_27_method_39_code
def yX1_stretch : MethodName := ⟨RX1, "stretch", "(II)I"⟩
abbrev cX1_points : ByteArray := prog_27_method_44_code
def yX1_points : MethodName := ⟨RX1, "points", "(III)I"⟩
abbrev cX1_known : ByteArray := prog_27_method_43_code
def yX1_known : MethodName := ⟨RX1, "known", "(III)I"⟩
abbrev cX1_makes : ByteArray := prog_27_method_40_code
def yX1_makes : MethodName := ⟨RX1, "makes", "(III)V"⟩
abbrev cX1_makes_2 : ByteArray := prog_27_method_41_code
def yX1_makes_2 : MethodName := ⟨RX1, "makes", "(IIII)V"⟩
abbrev cX1_point : ByteArray := prog_27_method_45_code
def yX1_point : MethodName := ⟨RX1, "point", "(IIIII)I"⟩
abbrev cX1_flowAt : ByteArray := prog_27_method_46_code
def yX1_flowAt : MethodName := ⟨RX1, "flowAt", "(III)I"⟩
abbrev cX1_along : ByteArray := prog_27_method_42_code
def yX1_along : MethodName := ⟨RX1, "along", "([I[IIIII)I"⟩
abbrev cX1_under : ByteArray := prog_27_method_47_code
def yX1_under : MethodName := ⟨RX1, "under", "(IIIII)I"⟩
abbrev cX1_flowOf : ByteArray := prog_27_method_50_code
def yX1_flowOf : MethodName := ⟨RX1, "flowOf", "(IIII)I"⟩
abbrev cX1_flows : ByteArray := prog_27_method_49_code
def yX1_flows : MethodName := ⟨RX1, "flows", "(III)Z"⟩
abbrev cX1_hundredths : ByteArray := prog_27_method_48_code
def yX1_hundredths : MethodName := ⟨RX1, "hundredths", "(IIII)I"⟩
abbrev cX1_base : ByteArray := prog_27_method_51_code
def yX1_base : MethodName := ⟨RX1, "base", "(IIII)I"⟩
abbrev cX1_breaks : ByteArray := prog_27_method_59_code
def yX1_breaks : MethodName := ⟨RX1, "breaks", "(II)I"⟩
abbrev cX1_gathers : ByteArray := prog_27_method_52_code
def yX1_gathers : MethodName := ⟨RX1, "gathers", "(I)V"⟩
abbrev cX1_seeks : ByteArray := prog_27_method_58_code
def yX1_seeks : MethodName := ⟨RX1, "seeks", "(I)V"⟩
abbrev cX1_tries : ByteArray := prog_27_method_55_code
def yX1_tries : MethodName := ⟨RX1, "tries", "(I)V"⟩
abbrev cX1_shiftOf : ByteArray := prog_27_method_54_code
def yX1_shiftOf : MethodName := ⟨RX1, "shiftOf", "(III)I"⟩
abbrev cX1_goes : ByteArray := prog_27_method_53_code
def yX1_goes : MethodName := ⟨RX1, "goes", "(IIII)Z"⟩
abbrev cX1_bits : ByteArray := prog_27_method_57_code
def yX1_bits : MethodName := ⟨RX1, "bits", "(I)I"⟩
abbrev cX1_goesAll : ByteArray := prog_27_method_56_code
def yX1_goesAll : MethodName := ⟨RX1, "goesAll", "(I)Z"⟩
abbrev cX1_shift : ByteArray := prog_27_method_60_code
def yX1_shift : MethodName := ⟨RX1, "shift", "(II)I"⟩
abbrev cX1_put : ByteArray := prog_27_method_61_code
def yX1_put : MethodName := ⟨RX1, "put", "(I)I"⟩
abbrev cX1_judge : ByteArray := prog_27_method_62_code
def yX1_judge : MethodName := ⟨RX1, "judge", "(I)I"⟩
abbrev cX1_beside : ByteArray := prog_27_method_63_code
def yX1_beside : MethodName := ⟨RX1, "beside", "(II)I"⟩
abbrev cX1_gap : ByteArray := prog_27_method_65_code
def yX1_gap : MethodName := ⟨RX1, "gap", "(III)I"⟩
abbrev cX1_between : ByteArray := prog_27_method_64_code
def yX1_between : MethodName := ⟨RX1, "between", "(IIIII)I"⟩
abbrev cX1_peak : ByteArray := prog_27_method_66_code
def yX1_peak : MethodName := ⟨RX1, "peak", "(IIII)I"⟩
abbrev cX1_often : ByteArray := prog_27_method_67_code
def yX1_often : MethodName := ⟨RX1, "often", "(II)I"⟩
abbrev cX1_agree : ByteArray := prog_27_method_68_code
def yX1_agree : MethodName := ⟨RX1, "agree", "(IIIII)I"⟩
abbrev cX1_next : ByteArray := prog_27_method_69_code
def yX1_next : MethodName := ⟨RX1, "next", "(I)I"⟩
abbrev cX1_publish : ByteArray := prog_27_method_70_code
def yX1_publish : MethodName := ⟨RX1, "publish", "(II)I"⟩
abbrev cX1_published : ByteArray := prog_27_method_71_code
def yX1_published : MethodName := ⟨RX1, "published", "(II)I"⟩
abbrev cX1_mend : ByteArray := prog_27_method_72_code
def yX1_mend : MethodName := ⟨RX1, "mend", "()I"⟩
abbrev cX1_limit : ByteArray := prog_27_method_73_code
def yX1_limit : MethodName := ⟨RX1, "limit", "(I)I"⟩
abbrev cX1_count : ByteArray := prog_27_method_74_code
def yX1_count : MethodName := ⟨RX1, "count", "(I)I"⟩
theorem q93 : (Jvm.Cond.initialized "RiverGaugeModel") ∈ lw_all := lw_g (lw_at lw_m1 3 rfl) rfl
theorem q1333 : (Jvm.Cond.instantiable "RiverGaugeModel" (89 : Nat)) ∈ lw_all := lw_g (lw_at lw_m6 43 rfl) rfl
theorem q1335 : (Jvm.Cond.instanceMethod ({ cls := "RiverGaugeModel", name := "<init>", desc := "()V" } : Jvm.MethodName)) ∈ lw_all := lw_g (lw_at lw_m6 45 rfl) rfl
theorem q1336 : (Jvm.Cond.code ({ cls := "RiverGaugeModel", name := "<init>", desc := "()V" } : Jvm.MethodName) prog_27_method_1_code (1 : Nat) (Option.none : Option Jvm.ClassFile.FieldType)) ∈ lw_all := lw_g (lw_at lw_m6 46 rfl) rfl
theorem q1337 : (Jvm.Cond.methodLink "RiverGaugeModel" (1 : Nat) ({ cls := "java/lang/Object", name := "<init>", desc := "()V" } : Jvm.MethodName)) ∈ lw_all := lw_g (lw_at lw_m6 47 rfl) rfl
theorem q1338 : (Jvm.Cond.fieldLink "RiverGaugeModel" (197 : Nat) "RiverGaugeModel" "now" "I") ∈ lw_all := lw_g (lw_at lw_m6 48 rfl) rfl
theorem q1339 : (Jvm.Cond.fieldLink "RiverGaugeModel" (194 : Nat) "RiverGaugeModel" "posts" "I") ∈ lw_all := lw_g (lw_at lw_m6 49 rfl) rfl
theorem q1340 : (Jvm.Cond.fieldLink "RiverGaugeModel" (204 : Nat) "RiverGaugeModel" "zeros" "I") ∈ lw_all := lw_g (lw_at lw_m6 50 rfl) rfl
theorem q1341 : (Jvm.Cond.fieldLink "RiverGaugeModel" (221 : Nat) "RiverGaugeModel" "heights" "I") ∈ lw_all := lw_g (lw_at lw_m6 51 rfl) rfl
theorem q1342 : (Jvm.Cond.fieldLink "RiverGaugeModel" (260 : Nat) "RiverGaugeModel" "flows" "I") ∈ lw_all := lw_g (lw_at lw_m6 52 rfl) rfl
theorem q1343 : (Jvm.Cond.fieldLink "RiverGaugeModel" (228 : Nat) "RiverGaugeModel" "standards" "I") ∈ lw_all := lw_g (lw_at lw_m6 53 rfl) rfl
theorem q1344 : (Jvm.Cond.fieldLink "RiverGaugeModel" (357 : Nat) "RiverGaugeModel" "unders" "I") ∈ lw_all := lw_g (lw_at lw_m6 54 rfl) rfl
theorem q1345 : (Jvm.Cond.fieldLink "RiverGaugeModel" (427 : Nat) "RiverGaugeModel" "publishedN" "I") ∈ lw_all := lw_g (lw_at lw_m6 55 rfl) rfl
theorem q1346 : (Jvm.Cond.fieldLink "RiverGaugeModel" (266 : Nat) "RiverGaugeModel" "tapeN" "I") ∈ lw_all := lw_g (lw_at lw_m6 56 rfl) rfl
theorem q1347 : (Jvm.Cond.fieldLink "RiverGaugeModel" (411 : Nat) "RiverGaugeModel" "rowN" "I") ∈ lw_all := lw_g (lw_at lw_m6 57 rfl) rfl
theorem q1348 : (Jvm.Cond.fieldLink "RiverGaugeModel" (7 : Nat) "RiverGaugeModel" "limit" "I") ∈ lw_all := lw_g (lw_at lw_m6 58 rfl) rfl
theorem q1349 : (Jvm.Cond.fieldLink "RiverGaugeModel" (207 : Nat) "RiverGaugeModel" "stamp" "I") ∈ lw_all := lw_g (lw_at lw_m6 59 rfl) rfl
theorem q1350 : (Jvm.Cond.fieldLink "RiverGaugeModel" (13 : Nat) "RiverGaugeModel" "zero" "[I") ∈ lw_all := lw_g (lw_at lw_m6 60 rfl) rfl
theorem q1351 : (Jvm.Cond.fieldLink "RiverGaugeModel" (17 : Nat) "RiverGaugeModel" "low" "[I") ∈ lw_all := lw_g (lw_at lw_m6 61 rfl) rfl
theorem q1352 : (Jvm.Cond.fieldLink "RiverGaugeModel" (20 : Nat) "RiverGaugeModel" "beside" "[I") ∈ lw_all := lw_g (lw_at lw_m6 62 rfl) rfl
theorem q1353 : (Jvm.Cond.fieldLink "RiverGaugeModel" (23 : Nat) "RiverGaugeModel" "stretches" "[I") ∈ lw_all := lw_g (lw_at lw_m6 63 rfl) rfl
theorem q1354 : (Jvm.Cond.fieldLink "RiverGaugeModel" (26 : Nat) "RiverGaugeModel" "bases" "[I") ∈ lw_all := lw_g (lw_at lw_m6 64 rfl) rfl
theorem q1355 : (Jvm.Cond.fieldLink "RiverGaugeModel" (29 : Nat) "RiverGaugeModel" "stretchFrom" "[I") ∈ lw_all := lw_g (lw_at lw_m6 65 rfl) rfl
theorem q1356 : (Jvm.Cond.fieldLink "RiverGaugeModel" (32 : Nat) "RiverGaugeModel" "baseHeight" "[I") ∈ lw_all := lw_g (lw_at lw_m6 66 rfl) rfl
theorem q1357 : (Jvm.Cond.fieldLink "RiverGaugeModel" (35 : Nat) "RiverGaugeModel" "baseFlow" "[I") ∈ lw_all := lw_g (lw_at lw_m6 67 rfl) rfl
theorem q1358 : (Jvm.Cond.fieldLink "RiverGaugeModel" (38 : Nat) "RiverGaugeModel" "zPost" "[I") ∈ lw_all := lw_g (lw_at lw_m6 68 rfl) rfl
theorem q1359 : (Jvm.Cond.fieldLink "RiverGaugeModel" (41 : Nat) "RiverGaugeModel" "zZero" "[I") ∈ lw_all := lw_g (lw_at lw_m6 69 rfl) rfl
theorem q1360 : (Jvm.Cond.fieldLink "RiverGaugeModel" (44 : Nat) "RiverGaugeModel" "zFrom" "[I") ∈ lw_all := lw_g (lw_at lw_m6 70 rfl) rfl
theorem q1361 : (Jvm.Cond.fieldLink "RiverGaugeModel" (47 : Nat) "RiverGaugeModel" "zKnown" "[I") ∈ lw_all := lw_g (lw_at lw_m6 71 rfl) rfl
theorem q1362 : (Jvm.Cond.fieldLink "RiverGaugeModel" (50 : Nat) "RiverGaugeModel" "hPost" "[I") ∈ lw_all := lw_g (lw_at lw_m6 72 rfl) rfl
theorem q1363 : (Jvm.Cond.fieldLink "RiverGaugeModel" (53 : Nat) "RiverGaugeModel" "hTime" "[I") ∈ lw_all := lw_g (lw_at lw_m6 73 rfl) rfl
theorem q1364 : (Jvm.Cond.fieldLink "RiverGaugeModel" (56 : Nat) "RiverGaugeModel" "hKind" "[I") ∈ lw_all := lw_g (lw_at lw_m6 74 rfl) rfl
theorem q1365 : (Jvm.Cond.fieldLink "RiverGaugeModel" (59 : Nat) "RiverGaugeModel" "hRead" "[I") ∈ lw_all := lw_g (lw_at lw_m6 75 rfl) rfl
theorem q1366 : (Jvm.Cond.fieldLink "RiverGaugeModel" (62 : Nat) "RiverGaugeModel" "hKnown" "[I") ∈ lw_all := lw_g (lw_at lw_m6 76 rfl) rfl
theorem q1367 : (Jvm.Cond.fieldLink "RiverGaugeModel" (65 : Nat) "RiverGaugeModel" "hStruck" "[I") ∈ lw_all := lw_g (lw_at lw_m6 77 rfl) rfl
theorem q1368 : (Jvm.Cond.fieldLink "RiverGaugeModel" (68 : Nat) "RiverGaugeModel" "fPost" "[I") ∈ lw_all := lw_g (lw_at lw_m6 78 rfl) rfl
theorem q1369 : (Jvm.Cond.fieldLink "RiverGaugeModel" (71 : Nat) "RiverGaugeModel" "fTime" "[I") ∈ lw_all := lw_g (lw_at lw_m6 79 rfl) rfl
theorem q1370 : (Jvm.Cond.fieldLink "RiverGaugeModel" (74 : Nat) "RiverGaugeModel" "fNumber" "[I") ∈ lw_all := lw_g (lw_at lw_m6 80 rfl) rfl
theorem q1371 : (Jvm.Cond.fieldLink "RiverGaugeModel" (77 : Nat) "RiverGaugeModel" "fWrong" "[I") ∈ lw_all := lw_g (lw_at lw_m6 81 rfl) rfl
theorem q1372 : (Jvm.Cond.fieldLink "RiverGaugeModel" (80 : Nat) "RiverGaugeModel" "fKnown" "[I") ∈ lw_all := lw_g (lw_at lw_m6 82 rfl) rfl
theorem q1373 : (Jvm.Cond.fieldLink "RiverGaugeModel" (83 : Nat) "RiverGaugeModel" "fStruck" "[I") ∈ lw_all := lw_g (lw_at lw_m6 83 rfl) rfl
theorem q1374 : (Jvm.Cond.fieldLink "RiverGaugeModel" (86 : Nat) "RiverGaugeModel" "uPost" "[I") ∈ lw_all := lw_g (lw_at lw_m6 84 rfl) rfl
theorem q1375 : (Jvm.Cond.fieldLink "RiverGaugeModel" (89 : Nat) "RiverGaugeModel" "uKind" "[I") ∈ lw_all := lw_g (lw_at lw_m6 85 rfl) rfl
theorem q1376 : (Jvm.Cond.fieldLink "RiverGaugeModel" (92 : Nat) "RiverGaugeModel" "uFrom" "[I") ∈ lw_all := lw_g (lw_at lw_m6 86 rfl) rfl
theorem q1377 : (Jvm.Cond.fieldLink "RiverGaugeModel" (95 : Nat) "RiverGaugeModel" "uTo" "[I") ∈ lw_all := lw_g (lw_at lw_m6 87 rfl) rfl
theorem q1378 : (Jvm.Cond.fieldLink "RiverGaugeModel" (98 : Nat) "RiverGaugeModel" "uMany" "[I") ∈ lw_all := lw_g (lw_at lw_m6 88 rfl) rfl
theorem q1379 : (Jvm.Cond.fieldLink "RiverGaugeModel" (101 : Nat) "RiverGaugeModel" "uKnown" "[I") ∈ lw_all := lw_g (lw_at lw_m6 89 rfl) rfl
theorem q1380 : (Jvm.Cond.fieldLink "RiverGaugeModel" (104 : Nat) "RiverGaugeModel" "sPurpose" "[I") ∈ lw_all := lw_g (lw_at lw_m6 90 rfl) rfl
theorem q1381 : (Jvm.Cond.fieldLink "RiverGaugeModel" (107 : Nat) "RiverGaugeModel" "sDay" "[I") ∈ lw_all := lw_g (lw_at lw_m6 91 rfl) rfl
theorem q1382 : (Jvm.Cond.fieldLink "RiverGaugeModel" (110 : Nat) "RiverGaugeModel" "sTold" "[I") ∈ lw_all := lw_g (lw_at lw_m6 92 rfl) rfl
theorem q1383 : (Jvm.Cond.fieldLink "RiverGaugeModel" (113 : Nat) "RiverGaugeModel" "sN" "[I") ∈ lw_all := lw_g (lw_at lw_m6 93 rfl) rfl
theorem q1384 : (Jvm.Cond.fieldLink "RiverGaugeModel" (116 : Nat) "RiverGaugeModel" "steps" "[I") ∈ lw_all := lw_g (lw_at lw_m6 94 rfl) rfl
theorem q1385 : (Jvm.Cond.fieldLink "RiverGaugeModel" (119 : Nat) "RiverGaugeModel" "pPost" "[I") ∈ lw_all := lw_g (lw_at lw_m6 95 rfl) rfl
theorem q1386 : (Jvm.Cond.fieldLink "RiverGaugeModel" (122 : Nat) "RiverGaugeModel" "pTime" "[I") ∈ lw_all := lw_g (lw_at lw_m6 96 rfl) rfl
theorem q1387 : (Jvm.Cond.fieldLink "RiverGaugeModel" (125 : Nat) "RiverGaugeModel" "pTold" "[I") ∈ lw_all := lw_g (lw_at lw_m6 97 rfl) rfl
theorem q1388 : (Jvm.Cond.fieldLink "RiverGaugeModel" (128 : Nat) "RiverGaugeModel" "tape" "[I") ∈ lw_all := lw_g (lw_at lw_m6 98 rfl) rfl
theorem q1389 : (Jvm.Cond.fieldLink "RiverGaugeModel" (131 : Nat) "RiverGaugeModel" "row" "[I") ∈ lw_all := lw_g (lw_at lw_m6 99 rfl) rfl
theorem q1390 : (Jvm.Cond.fieldLink "RiverGaugeModel" (134 : Nat) "RiverGaugeModel" "refused" "[I") ∈ lw_all := lw_g (lw_at lw_m6 100 rfl) rfl
theorem q1391 : (Jvm.Cond.fieldLink "RiverGaugeModel" (137 : Nat) "RiverGaugeModel" "letters" "[J") ∈ lw_all := lw_g (lw_at lw_m6 101 rfl) rfl
theorem q1392 : (Jvm.Cond.fieldLink "RiverGaugeModel" (252 : Nat) "RiverGaugeModel" "found" "I") ∈ lw_all := lw_g (lw_at lw_m6 102 rfl) rfl
theorem q1393 : (Jvm.Cond.fieldLink "RiverGaugeModel" (141 : Nat) "RiverGaugeModel" "ops" "[I") ∈ lw_all := lw_g (lw_at lw_m6 103 rfl) rfl
theorem q1394 : (Jvm.Cond.fieldLink "RiverGaugeModel" (144 : Nat) "RiverGaugeModel" "newSteps" "[I") ∈ lw_all := lw_g (lw_at lw_m6 104 rfl) rfl
theorem q1395 : (Jvm.Cond.fieldLink "RiverGaugeModel" (271 : Nat) "RiverGaugeModel" "at" "I") ∈ lw_all := lw_g (lw_at lw_m6 105 rfl) rfl
theorem q1396 : (Jvm.Cond.fieldLink "RiverGaugeModel" (281 : Nat) "RiverGaugeModel" "stepN" "I") ∈ lw_all := lw_g (lw_at lw_m6 106 rfl) rfl
theorem q1397 : (Jvm.Cond.fieldLink "RiverGaugeModel" (291 : Nat) "RiverGaugeModel" "opsN" "I") ∈ lw_all := lw_g (lw_at lw_m6 107 rfl) rfl
theorem q1398 : (Jvm.Cond.fieldLink "RiverGaugeModel" (294 : Nat) "RiverGaugeModel" "deep" "I") ∈ lw_all := lw_g (lw_at lw_m6 108 rfl) rfl
theorem q1399 : (Jvm.Cond.fieldLink "RiverGaugeModel" (147 : Nat) "RiverGaugeModel" "stack" "[J") ∈ lw_all := lw_g (lw_at lw_m6 109 rfl) rfl
theorem q1400 : (Jvm.Cond.fieldLink "RiverGaugeModel" (150 : Nat) "RiverGaugeModel" "builtPost" "I") ∈ lw_all := lw_g (lw_at lw_m6 110 rfl) rfl
theorem q1401 : (Jvm.Cond.fieldLink "RiverGaugeModel" (322 : Nat) "RiverGaugeModel" "builtFrom" "I") ∈ lw_all := lw_g (lw_at lw_m6 111 rfl) rfl
theorem q1402 : (Jvm.Cond.fieldLink "RiverGaugeModel" (325 : Nat) "RiverGaugeModel" "builtTo" "I") ∈ lw_all := lw_g (lw_at lw_m6 112 rfl) rfl
theorem q1403 : (Jvm.Cond.fieldLink "RiverGaugeModel" (328 : Nat) "RiverGaugeModel" "builtKnown" "I") ∈ lw_all := lw_g (lw_at lw_m6 113 rfl) rfl
theorem q1404 : (Jvm.Cond.fieldLink "RiverGaugeModel" (331 : Nat) "RiverGaugeModel" "builtStamp" "I") ∈ lw_all := lw_g (lw_at lw_m6 114 rfl) rfl
theorem q1405 : (Jvm.Cond.fieldLink "RiverGaugeModel" (334 : Nat) "RiverGaugeModel" "pointN" "I") ∈ lw_all := lw_g (lw_at lw_m6 115 rfl) rfl
theorem q1406 : (Jvm.Cond.fieldLink "RiverGaugeModel" (337 : Nat) "RiverGaugeModel" "wrongest" "I") ∈ lw_all := lw_g (lw_at lw_m6 116 rfl) rfl
theorem q1407 : (Jvm.Cond.fieldLink "RiverGaugeModel" (153 : Nat) "RiverGaugeModel" "pointHeight" "[I") ∈ lw_all := lw_g (lw_at lw_m6 117 rfl) rfl
theorem q1408 : (Jvm.Cond.fieldLink "RiverGaugeModel" (156 : Nat) "RiverGaugeModel" "pointFlow" "[I") ∈ lw_all := lw_g (lw_at lw_m6 118 rfl) rfl
theorem q1409 : (Jvm.Cond.fieldLink "RiverGaugeModel" (159 : Nat) "RiverGaugeModel" "pointMany" "[I") ∈ lw_all := lw_g (lw_at lw_m6 119 rfl) rfl
theorem q1410 : (Jvm.Cond.fieldLink "RiverGaugeModel" (162 : Nat) "RiverGaugeModel" "block" "[I") ∈ lw_all := lw_g (lw_at lw_m6 120 rfl) rfl
theorem q1411 : (Jvm.Cond.fieldLink "RiverGaugeModel" (165 : Nat) "RiverGaugeModel" "blockMany" "[I") ∈ lw_all := lw_g (lw_at lw_m6 121 rfl) rfl
theorem q1412 : (Jvm.Cond.fieldLink "RiverGaugeModel" (168 : Nat) "RiverGaugeModel" "pointSum" "[J") ∈ lw_all := lw_g (lw_at lw_m6 122 rfl) rfl
theorem q1413 : (Jvm.Cond.fieldLink "RiverGaugeModel" (171 : Nat) "RiverGaugeModel" "blockSum" "[J") ∈ lw_all := lw_g (lw_at lw_m6 123 rfl) rfl
theorem q1414 : (Jvm.Cond.fieldLink "RiverGaugeModel" (340 : Nat) "RiverGaugeModel" "isBeyond" "Z") ∈ lw_all := lw_g (lw_at lw_m6 124 rfl) rfl
theorem q1415 : (Jvm.Cond.fieldLink "RiverGaugeModel" (360 : Nat) "RiverGaugeModel" "isUnder" "Z") ∈ lw_all := lw_g (lw_at lw_m6 125 rfl) rfl
theorem q1416 : (Jvm.Cond.fieldLink "RiverGaugeModel" (372 : Nat) "RiverGaugeModel" "reckoned" "I") ∈ lw_all := lw_g (lw_at lw_m6 126 rfl) rfl
theorem q1417 : (Jvm.Cond.fieldLink "RiverGaugeModel" (363 : Nat) "RiverGaugeModel" "wrong" "I") ∈ lw_all := lw_g (lw_at lw_m6 127 rfl) rfl
theorem q1418 : (Jvm.Cond.fieldLink "RiverGaugeModel" (377 : Nat) "RiverGaugeModel" "runN" "I") ∈ lw_all := lw_g (lw_at lw_m6 128 rfl) rfl
theorem q1419 : (Jvm.Cond.fieldLink "RiverGaugeModel" (174 : Nat) "RiverGaugeModel" "runFlow" "[I") ∈ lw_all := lw_g (lw_at lw_m6 129 rfl) rfl
theorem q1420 : (Jvm.Cond.fieldLink "RiverGaugeModel" (177 : Nat) "RiverGaugeModel" "runHeight" "[I") ∈ lw_all := lw_g (lw_at lw_m6 130 rfl) rfl
theorem q1421 : (Jvm.Cond.fieldLink "RiverGaugeModel" (180 : Nat) "RiverGaugeModel" "shifts" "[I") ∈ lw_all := lw_g (lw_at lw_m6 131 rfl) rfl
theorem q1422 : (Jvm.Cond.fieldLink "RiverGaugeModel" (390 : Nat) "RiverGaugeModel" "fewest" "I") ∈ lw_all := lw_g (lw_at lw_m6 132 rfl) rfl
theorem q1423 : (Jvm.Cond.fieldLink "RiverGaugeModel" (393 : Nat) "RiverGaugeModel" "rivals" "I") ∈ lw_all := lw_g (lw_at lw_m6 133 rfl) rfl
theorem q1424 : (Jvm.Cond.fieldLink "RiverGaugeModel" (396 : Nat) "RiverGaugeModel" "least" "I") ∈ lw_all := lw_g (lw_at lw_m6 134 rfl) rfl
theorem q1425 : (Jvm.Cond.fieldLink "RiverGaugeModel" (183 : Nat) "RiverGaugeModel" "ones" "[I") ∈ lw_all := lw_g (lw_at lw_m6 135 rfl) rfl
theorem q1426 : (Jvm.Cond.fieldLink "RiverGaugeModel" (186 : Nat) "RiverGaugeModel" "others" "[I") ∈ lw_all := lw_g (lw_at lw_m6 136 rfl) rfl
theorem q1427 : (Jvm.Cond.lays "RiverGaugeModel" "RiverGaugeModel" "now" "I") ∈ lw_all := lw_g (lw_at lw_m6 137 rfl) rfl
theorem q1428 : (Jvm.Cond.soleField "RiverGaugeModel" "now") ∈ lw_all := lw_g (lw_at lw_m6 138 rfl) rfl
theorem q1429 : (Jvm.Cond.lays "RiverGaugeModel" "RiverGaugeModel" "posts" "I") ∈ lw_all := lw_g (lw_at lw_m6 139 rfl) rfl
theorem q1430 : (Jvm.Cond.soleField "RiverGaugeModel" "posts") ∈ lw_all := lw_g (lw_at lw_m6 140 rfl) rfl
theorem q1431 : (Jvm.Cond.lays "RiverGaugeModel" "RiverGaugeModel" "zeros" "I") ∈ lw_all := lw_g (lw_at lw_m6 141 rfl) rfl
theorem q1432 : (Jvm.Cond.soleField "RiverGaugeModel" "zeros") ∈ lw_all := lw_g (lw_at lw_m6 142 rfl) rfl
theorem q1433 : (Jvm.Cond.lays "RiverGaugeModel" "RiverGaugeModel" "heights" "I") ∈ lw_all := lw_g (lw_at lw_m6 143 rfl) rfl
theorem q1434 : (Jvm.Cond.soleField "RiverGaugeModel" "heights") ∈ lw_all := lw_g (lw_at lw_m6 144 rfl) rfl
theorem q1435 : (Jvm.Cond.lays "RiverGaugeModel" "RiverGaugeModel" "flows" "I") ∈ lw_all := lw_g (lw_at lw_m6 145 rfl) rfl
theorem q1436 : (Jvm.Cond.soleField "RiverGaugeModel" "flows") ∈ lw_all := lw_g (lw_at lw_m6 146 rfl) rfl
theorem q1437 : (Jvm.Cond.lays "RiverGaugeModel" "RiverGaugeModel" "standards" "I") ∈ lw_all := lw_g (lw_at lw_m6 147 rfl) rfl
theorem q1438 : (Jvm.Cond.soleField "RiverGaugeModel" "standards") ∈ lw_all := lw_g (lw_at lw_m6 148 rfl) rfl
theorem q1439 : (Jvm.Cond.lays "RiverGaugeModel" "RiverGaugeModel" "unders" "I") ∈ lw_all := lw_g (lw_at lw_m6 149 rfl) rfl
theorem q1440 : (Jvm.Cond.soleField "RiverGaugeModel" "unders") ∈ lw_all := lw_g (lw_at lw_m6 150 rfl) rfl
theorem q1441 : (Jvm.Cond.lays "RiverGaugeModel" "RiverGaugeModel" "publishedN" "I") ∈ lw_all := lw_g (lw_at lw_m6 151 rfl) rfl
theorem q1442 : (Jvm.Cond.soleField "RiverGaugeModel" "publishedN") ∈ lw_all := lw_g (lw_at lw_m6 152 rfl) rfl
theorem q1443 : (Jvm.Cond.lays "RiverGaugeModel" "RiverGaugeModel" "tapeN" "I") ∈ lw_all := lw_g (lw_at lw_m6 153 rfl) rfl
theorem q1444 : (Jvm.Cond.soleField "RiverGaugeModel" "tapeN") ∈ lw_all := lw_g (lw_at lw_m6 154 rfl) rfl
theorem q1445 : (Jvm.Cond.lays "RiverGaugeModel" "RiverGaugeModel" "rowN" "I") ∈ lw_all := lw_g (lw_at lw_m6 155 rfl) rfl
theorem q1446 : (Jvm.Cond.soleField "RiverGaugeModel" "rowN") ∈ lw_all := lw_g (lw_at lw_m6 156 rfl) rfl
theorem q1447 : (Jvm.Cond.lays "RiverGaugeModel" "RiverGaugeModel" "limit" "I") ∈ lw_all := lw_g (lw_at lw_m6 157 rfl) rfl
theorem q1448 : (Jvm.Cond.soleField "RiverGaugeModel" "limit") ∈ lw_all := lw_g (lw_at lw_m6 158 rfl) rfl
theorem q1449 : (Jvm.Cond.lays "RiverGaugeModel" "RiverGaugeModel" "stamp" "I") ∈ lw_all := lw_g (lw_at lw_m6 159 rfl) rfl
theorem q1450 : (Jvm.Cond.soleField "RiverGaugeModel" "stamp") ∈ lw_all := lw_g (lw_at lw_m6 160 rfl) rfl
theorem q1451 : (Jvm.Cond.laysFinal "RiverGaugeModel" "RiverGaugeModel" "zero" "[I") ∈ lw_all := lw_g (lw_at lw_m6 161 rfl) rfl
theorem q1452 : (Jvm.Cond.soleField "RiverGaugeModel" "zero") ∈ lw_all := lw_g (lw_at lw_m6 162 rfl) rfl
theorem q1453 : (Jvm.Cond.laysFinal "RiverGaugeModel" "RiverGaugeModel" "low" "[I") ∈ lw_all := lw_g (lw_at lw_m6 163 rfl) rfl
theorem q1454 : (Jvm.Cond.soleField "RiverGaugeModel" "low") ∈ lw_all := lw_g (lw_at lw_m6 164 rfl) rfl
theorem q1455 : (Jvm.Cond.laysFinal "RiverGaugeModel" "RiverGaugeModel" "beside" "[I") ∈ lw_all := lw_g (lw_at lw_m6 165 rfl) rfl
theorem q1456 : (Jvm.Cond.soleField "RiverGaugeModel" "beside") ∈ lw_all := lw_g (lw_at lw_m6 166 rfl) rfl
theorem q1457 : (Jvm.Cond.laysFinal "RiverGaugeModel" "RiverGaugeModel" "stretches" "[I") ∈ lw_all := lw_g (lw_at lw_m6 167 rfl) rfl
theorem q1458 : (Jvm.Cond.soleField "RiverGaugeModel" "stretches") ∈ lw_all := lw_g (lw_at lw_m6 168 rfl) rfl
theorem q1459 : (Jvm.Cond.laysFinal "RiverGaugeModel" "RiverGaugeModel" "bases" "[I") ∈ lw_all := lw_g (lw_at lw_m6 169 rfl) rfl
theorem q1460 : (Jvm.Cond.soleField "RiverGaugeModel" "bases") ∈ lw_all := lw_g (lw_at lw_m6 170 rfl) rfl
theorem q1461 : (Jvm.Cond.laysFinal "RiverGaugeModel" "RiverGaugeModel" "stretchFrom" "[I") ∈ lw_all := lw_g (lw_at lw_m6 171 rfl) rfl
theorem q1462 : (Jvm.Cond.soleField "RiverGaugeModel" "stretchFrom") ∈ lw_all := lw_g (lw_at lw_m6 172 rfl) rfl
theorem q1463 : (Jvm.Cond.laysFinal "RiverGaugeModel" "RiverGaugeModel" "baseHeight" "[I") ∈ lw_all := lw_g (lw_at lw_m6 173 rfl) rfl
theorem q1464 : (Jvm.Cond.soleField "RiverGaugeModel" "baseHeight") ∈ lw_all := lw_g (lw_at lw_m6 174 rfl) rfl
theorem q1465 : (Jvm.Cond.laysFinal "RiverGaugeModel" "RiverGaugeModel" "baseFlow" "[I") ∈ lw_all := lw_g (lw_at lw_m6 175 rfl) rfl
theorem q1466 : (Jvm.Cond.soleField "RiverGaugeModel" "baseFlow") ∈ lw_all := lw_g (lw_at lw_m6 176 rfl) rfl
theorem q1467 : (Jvm.Cond.laysFinal "RiverGaugeModel" "RiverGaugeModel" "zPost" "[I") ∈ lw_all := lw_g (lw_at lw_m6 177 rfl) rfl
theorem q1468 : (Jvm.Cond.soleField "RiverGaugeModel" "zPost") ∈ lw_all := lw_g (lw_at lw_m6 178 rfl) rfl
theorem q1469 : (Jvm.Cond.laysFinal "RiverGaugeModel" "RiverGaugeModel" "zZero" "[I") ∈ lw_all := lw_g (lw_at lw_m6 179 rfl) rfl
theorem q1470 : (Jvm.Cond.soleField "RiverGaugeModel" "zZero") ∈ lw_all := lw_g (lw_at lw_m6 180 rfl) rfl
theorem q1471 : (Jvm.Cond.laysFinal "RiverGaugeModel" "RiverGaugeModel" "zFrom" "[I") ∈ lw_all := lw_g (lw_at lw_m6 181 rfl) rfl
theorem q1472 : (Jvm.Cond.soleField "RiverGaugeModel" "zFrom") ∈ lw_all := lw_g (lw_at lw_m6 182 rfl) rfl
theorem q1473 : (Jvm.Cond.laysFinal "RiverGaugeModel" "RiverGaugeModel" "zKnown" "[I") ∈ lw_all := lw_g (lw_at lw_m6 183 rfl) rfl
theorem q1474 : (Jvm.Cond.soleField "RiverGaugeModel" "zKnown") ∈ lw_all := lw_g (lw_at lw_m6 184 rfl) rfl
theorem q1475 : (Jvm.Cond.laysFinal "RiverGaugeModel" "RiverGaugeModel" "hPost" "[I") ∈ lw_all := lw_g (lw_at lw_m6 185 rfl) rfl
theorem q1476 : (Jvm.Cond.soleField "RiverGaugeModel" "hPost") ∈ lw_all := lw_g (lw_at lw_m6 186 rfl) rfl
theorem q1477 : (Jvm.Cond.laysFinal "RiverGaugeModel" "RiverGaugeModel" "hTime" "[I") ∈ lw_all := lw_g (lw_at lw_m6 187 rfl) rfl
theorem q1478 : (Jvm.Cond.soleField "RiverGaugeModel" "hTime") ∈ lw_all := lw_g (lw_at lw_m6 188 rfl) rfl
theorem q1479 : (Jvm.Cond.laysFinal "RiverGaugeModel" "RiverGaugeModel" "hKind" "[I") ∈ lw_all := lw_g (lw_at lw_m6 189 rfl) rfl
theorem q1480 : (Jvm.Cond.soleField "RiverGaugeModel" "hKind") ∈ lw_all := lw_g (lw_at lw_m6 190 rfl) rfl
theorem q1481 : (Jvm.Cond.laysFinal "RiverGaugeModel" "RiverGaugeModel" "hRead" "[I") ∈ lw_all := lw_g (lw_at lw_m6 191 rfl) rfl
theorem q1482 : (Jvm.Cond.soleField "RiverGaugeModel" "hRead") ∈ lw_all := lw_g (lw_at lw_m6 192 rfl) rfl
theorem q1483 : (Jvm.Cond.laysFinal "RiverGaugeModel" "RiverGaugeModel" "hKnown" "[I") ∈ lw_all := lw_g (lw_at lw_m6 193 rfl) rfl
theorem q1484 : (Jvm.Cond.soleField "RiverGaugeModel" "hKnown") ∈ lw_all := lw_g (lw_at lw_m6 194 rfl) rfl
theorem q1485 : (Jvm.Cond.laysFinal "RiverGaugeModel" "RiverGaugeModel" "hStruck" "[I") ∈ lw_all := lw_g (lw_at lw_m6 195 rfl) rfl
theorem q1486 : (Jvm.Cond.soleField "RiverGaugeModel" "hStruck") ∈ lw_all := lw_g (lw_at lw_m6 196 rfl) rfl
theorem q1487 : (Jvm.Cond.laysFinal "RiverGaugeModel" "RiverGaugeModel" "fPost" "[I") ∈ lw_all := lw_g (lw_at lw_m6 197 rfl) rfl
theorem q1488 : (Jvm.Cond.soleField "RiverGaugeModel" "fPost") ∈ lw_all := lw_g (lw_at lw_m6 198 rfl) rfl
theorem q1489 : (Jvm.Cond.laysFinal "RiverGaugeModel" "RiverGaugeModel" "fTime" "[I") ∈ lw_all := lw_g (lw_at lw_m6 199 rfl) rfl
theorem q1490 : (Jvm.Cond.soleField "RiverGaugeModel" "fTime") ∈ lw_all := lw_g (lw_at lw_m6 200 rfl) rfl
theorem q1491 : (Jvm.Cond.laysFinal "RiverGaugeModel" "RiverGaugeModel" "fNumber" "[I") ∈ lw_all := lw_g (lw_at lw_m6 201 rfl) rfl
theorem q1492 : (Jvm.Cond.soleField "RiverGaugeModel" "fNumber") ∈ lw_all := lw_g (lw_at lw_m6 202 rfl) rfl
theorem q1493 : (Jvm.Cond.laysFinal "RiverGaugeModel" "RiverGaugeModel" "fWrong" "[I") ∈ lw_all := lw_g (lw_at lw_m6 203 rfl) rfl
theorem q1494 : (Jvm.Cond.soleField "RiverGaugeModel" "fWrong") ∈ lw_all := lw_g (lw_at lw_m6 204 rfl) rfl
theorem q1495 : (Jvm.Cond.laysFinal "RiverGaugeModel" "RiverGaugeModel" "fKnown" "[I") ∈ lw_all := lw_g (lw_at lw_m6 205 rfl) rfl
theorem q1496 : (Jvm.Cond.soleField "RiverGaugeModel" "fKnown") ∈ lw_all := lw_g (lw_at lw_m6 206 rfl) rfl
theorem q1497 : (Jvm.Cond.laysFinal "RiverGaugeModel" "RiverGaugeModel" "fStruck" "[I") ∈ lw_all := lw_g (lw_at lw_m6 207 rfl) rfl
theorem q1498 : (Jvm.Cond.soleField "RiverGaugeModel" "fStruck") ∈ lw_all := lw_g (lw_at lw_m6 208 rfl) rfl
theorem q1499 : (Jvm.Cond.laysFinal "RiverGaugeModel" "RiverGaugeModel" "uPost" "[I") ∈ lw_all := lw_g (lw_at lw_m6 209 rfl) rfl
theorem q1500 : (Jvm.Cond.soleField "RiverGaugeModel" "uPost") ∈ lw_all := lw_g (lw_at lw_m6 210 rfl) rfl
theorem q1501 : (Jvm.Cond.laysFinal "RiverGaugeModel" "RiverGaugeModel" "uKind" "[I") ∈ lw_all := lw_g (lw_at lw_m6 211 rfl) rfl
theorem q1502 : (Jvm.Cond.soleField "RiverGaugeModel" "uKind") ∈ lw_all := lw_g (lw_at lw_m6 212 rfl) rfl
theorem q1503 : (Jvm.Cond.laysFinal "RiverGaugeModel" "RiverGaugeModel" "uFrom" "[I") ∈ lw_all := lw_g (lw_at lw_m6 213 rfl) rfl
theorem q1504 : (Jvm.Cond.soleField "RiverGaugeModel" "uFrom") ∈ lw_all := lw_g (lw_at lw_m6 214 rfl) rfl
theorem q1505 : (Jvm.Cond.laysFinal "RiverGaugeModel" "RiverGaugeModel" "uTo" "[I") ∈ lw_all := lw_g (lw_at lw_m6 215 rfl) rfl
theorem q1506 : (Jvm.Cond.soleField "RiverGaugeModel" "uTo") ∈ lw_all := lw_g (lw_at lw_m6 216 rfl) rfl
theorem q1507 : (Jvm.Cond.laysFinal "RiverGaugeModel" "RiverGaugeModel" "uMany" "[I") ∈ lw_all := lw_g (lw_at lw_m6 217 rfl) rfl
theorem q1508 : (Jvm.Cond.soleField "RiverGaugeModel" "uMany") ∈ lw_all := lw_g (lw_at lw_m6 218 rfl) rfl
theorem q1509 : (Jvm.Cond.laysFinal "RiverGaugeModel" "RiverGaugeModel" "uKnown" "[I") ∈ lw_all := lw_g (lw_at lw_m6 219 rfl) rfl
theorem q1510 : (Jvm.Cond.soleField "RiverGaugeModel" "uKnown") ∈ lw_all := lw_g (lw_at lw_m6 220 rfl) rfl
theorem q1511 : (Jvm.Cond.laysFinal "RiverGaugeModel" "RiverGaugeModel" "sPurpose" "[I") ∈ lw_all := lw_g (lw_at lw_m6 221 rfl) rfl
theorem q1512 : (Jvm.Cond.soleField "RiverGaugeModel" "sPurpose") ∈ lw_all := lw_g (lw_at lw_m6 222 rfl) rfl
theorem q1513 : (Jvm.Cond.laysFinal "RiverGaugeModel" "RiverGaugeModel" "sDay" "[I") ∈ lw_all := lw_g (lw_at lw_m6 223 rfl) rfl
theorem q1514 : (Jvm.Cond.soleField "RiverGaugeModel" "sDay") ∈ lw_all := lw_g (lw_at lw_m6 224 rfl) rfl
theorem q1515 : (Jvm.Cond.laysFinal "RiverGaugeModel" "RiverGaugeModel" "sTold" "[I") ∈ lw_all := lw_g (lw_at lw_m6 225 rfl) rfl
theorem q1516 : (Jvm.Cond.soleField "RiverGaugeModel" "sTold") ∈ lw_all := lw_g (lw_at lw_m6 226 rfl) rfl
theorem q1517 : (Jvm.Cond.laysFinal "RiverGaugeModel" "RiverGaugeModel" "sN" "[I") ∈ lw_all := lw_g (lw_at lw_m6 227 rfl) rfl
theorem q1518 : (Jvm.Cond.soleField "RiverGaugeModel" "sN") ∈ lw_all := lw_g (lw_at lw_m6 228 rfl) rfl
theorem q1519 : (Jvm.Cond.laysFinal "RiverGaugeModel" "RiverGaugeModel" "steps" "[I") ∈ lw_all := lw_g (lw_at lw_m6 229 rfl) rfl
theorem q1520 : (Jvm.Cond.soleField "RiverGaugeModel" "steps") ∈ lw_all := lw_g (lw_at lw_m6 230 rfl) rfl
theorem q1521 : (Jvm.Cond.laysFinal "RiverGaugeModel" "RiverGaugeModel" "pPost" "[I") ∈ lw_all := lw_g (lw_at lw_m6 231 rfl) rfl
theorem q1522 : (Jvm.Cond.soleField "RiverGaugeModel" "pPost") ∈ lw_all := lw_g (lw_at lw_m6 232 rfl) rfl
theorem q1523 : (Jvm.Cond.laysFinal "RiverGaugeModel" "RiverGaugeModel" "pTime" "[I") ∈ lw_all := lw_g (lw_at lw_m6 233 rfl) rfl
theorem q1524 : (Jvm.Cond.soleField "RiverGaugeModel" "pTime") ∈ lw_all := lw_g (lw_at lw_m6 234 rfl) rfl
theorem q1525 : (Jvm.Cond.laysFinal "RiverGaugeModel" "RiverGaugeModel" "pTold" "[I") ∈ lw_all := lw_g (lw_at lw_m6 235 rfl) rfl
theorem q1526 : (Jvm.Cond.soleField "RiverGaugeModel" "pTold") ∈ lw_all := lw_g (lw_at lw_m6 236 rfl) rfl
theorem q1527 : (Jvm.Cond.laysFinal "RiverGaugeModel" "RiverGaugeModel" "tape" "[I") ∈ lw_all := lw_g (lw_at lw_m6 237 rfl) rfl
theorem q1528 : (Jvm.Cond.soleField "RiverGaugeModel" "tape") ∈ lw_all := lw_g (lw_at lw_m6 238 rfl) rfl
theorem q1529 : (Jvm.Cond.laysFinal "RiverGaugeModel" "RiverGaugeModel" "row" "[I") ∈ lw_all := lw_g (lw_at lw_m6 239 rfl) rfl
theorem q1530 : (Jvm.Cond.soleField "RiverGaugeModel" "row") ∈ lw_all := lw_g (lw_at lw_m7 0 rfl) rfl
theorem q1531 : (Jvm.Cond.laysFinal "RiverGaugeModel" "RiverGaugeModel" "refused" "[I") ∈ lw_all := lw_g (lw_at lw_m7 1 rfl) rfl
theorem q1532 : (Jvm.Cond.soleField "RiverGaugeModel" "refused") ∈ lw_all := lw_g (lw_at lw_m7 2 rfl) rfl
theorem q1533 : (Jvm.Cond.laysFinal "RiverGaugeModel" "RiverGaugeModel" "letters" "[J") ∈ lw_all := lw_g (lw_at lw_m7 3 rfl) rfl
theorem q1534 : (Jvm.Cond.soleField "RiverGaugeModel" "letters") ∈ lw_all := lw_g (lw_at lw_m7 4 rfl) rfl
theorem q1535 : (Jvm.Cond.lays "RiverGaugeModel" "RiverGaugeModel" "found" "I") ∈ lw_all := lw_g (lw_at lw_m7 5 rfl) rfl
theorem q1536 : (Jvm.Cond.soleField "RiverGaugeModel" "found") ∈ lw_all := lw_g (lw_at lw_m7 6 rfl) rfl
theorem q1537 : (Jvm.Cond.laysFinal "RiverGaugeModel" "RiverGaugeModel" "ops" "[I") ∈ lw_all := lw_g (lw_at lw_m7 7 rfl) rfl
theorem q1538 : (Jvm.Cond.soleField "RiverGaugeModel" "ops") ∈ lw_all := lw_g (lw_at lw_m7 8 rfl) rfl
theorem q1539 : (Jvm.Cond.laysFinal "RiverGaugeModel" "RiverGaugeModel" "newSteps" "[I") ∈ lw_all := lw_g (lw_at lw_m7 9 rfl) rfl
theorem q1540 : (Jvm.Cond.soleField "RiverGaugeModel" "newSteps") ∈ lw_all := lw_g (lw_at lw_m7 10 rfl) rfl
theorem q1541 : (Jvm.Cond.lays "RiverGaugeModel" "RiverGaugeModel" "at" "I") ∈ lw_all := lw_g (lw_at lw_m7 11 rfl) rfl
theorem q1542 : (Jvm.Cond.soleField "RiverGaugeModel" "at") ∈ lw_all := lw_g (lw_at lw_m7 12 rfl) rfl
theorem q1543 : (Jvm.Cond.lays "RiverGaugeModel" "RiverGaugeModel" "stepN" "I") ∈ lw_all := lw_g (lw_at lw_m7 13 rfl) rfl
theorem q1544 : (Jvm.Cond.soleField "RiverGaugeModel" "stepN") ∈ lw_all := lw_g (lw_at lw_m7 14 rfl) rfl
theorem q1545 : (Jvm.Cond.lays "RiverGaugeModel" "RiverGaugeModel" "opsN" "I") ∈ lw_all := lw_g (lw_at lw_m7 15 rfl) rfl
theorem q1546 : (Jvm.Cond.soleField "RiverGaugeModel" "opsN") ∈ lw_all := lw_g (lw_at lw_m7 16 rfl) rfl
theorem q1547 : (Jvm.Cond.lays "RiverGaugeModel" "RiverGaugeModel" "deep" "I") ∈ lw_all := lw_g (lw_at lw_m7 17 rfl) rfl
theorem q1548 : (Jvm.Cond.soleField "RiverGaugeModel" "deep") ∈ lw_all := lw_g (lw_at lw_m7 18 rfl) rfl
theorem q1549 : (Jvm.Cond.laysFinal "RiverGaugeModel" "RiverGaugeModel" "stack" "[J") ∈ lw_all := lw_g (lw_at lw_m7 19 rfl) rfl
theorem q1550 : (Jvm.Cond.soleField "RiverGaugeModel" "stack") ∈ lw_all := lw_g (lw_at lw_m7 20 rfl) rfl
theorem q1551 : (Jvm.Cond.lays "RiverGaugeModel" "RiverGaugeModel" "builtPost" "I") ∈ lw_all := lw_g (lw_at lw_m7 21 rfl) rfl
theorem q1552 : (Jvm.Cond.soleField "RiverGaugeModel" "builtPost") ∈ lw_all := lw_g (lw_at lw_m7 22 rfl) rfl
theorem q1553 : (Jvm.Cond.lays "RiverGaugeModel" "RiverGaugeModel" "builtFrom" "I") ∈ lw_all := lw_g (lw_at lw_m7 23 rfl) rfl
theorem q1554 : (Jvm.Cond.soleField "RiverGaugeModel" "builtFrom") ∈ lw_all := lw_g (lw_at lw_m7 24 rfl) rfl
theorem q1555 : (Jvm.Cond.lays "RiverGaugeModel" "RiverGaugeModel" "builtTo" "I") ∈ lw_all := lw_g (lw_at lw_m7 25 rfl) rfl
theorem q1556 : (Jvm.Cond.soleField "RiverGaugeModel" "builtTo") ∈ lw_all := lw_g (lw_at lw_m7 26 rfl) rfl
theorem q1557 : (Jvm.Cond.lays "RiverGaugeModel" "RiverGaugeModel" "builtKnown" "I") ∈ lw_all := lw_g (lw_at lw_m7 27 rfl) rfl
theorem q1558 : (Jvm.Cond.soleField "RiverGaugeModel" "builtKnown") ∈ lw_all := lw_g (lw_at lw_m7 28 rfl) rfl
theorem q1559 : (Jvm.Cond.lays "RiverGaugeModel" "RiverGaugeModel" "builtStamp" "I") ∈ lw_all := lw_g (lw_at lw_m7 29 rfl) rfl
theorem q1560 : (Jvm.Cond.soleField "RiverGaugeModel" "builtStamp") ∈ lw_all := lw_g (lw_at lw_m7 30 rfl) rfl
theorem q1561 : (Jvm.Cond.lays "RiverGaugeModel" "RiverGaugeModel" "pointN" "I") ∈ lw_all := lw_g (lw_at lw_m7 31 rfl) rfl
theorem q1562 : (Jvm.Cond.soleField "RiverGaugeModel" "pointN") ∈ lw_all := lw_g (lw_at lw_m7 32 rfl) rfl
theorem q1563 : (Jvm.Cond.lays "RiverGaugeModel" "RiverGaugeModel" "wrongest" "I") ∈ lw_all := lw_g (lw_at lw_m7 33 rfl) rfl
theorem q1564 : (Jvm.Cond.soleField "RiverGaugeModel" "wrongest") ∈ lw_all := lw_g (lw_at lw_m7 34 rfl) rfl
theorem q1565 : (Jvm.Cond.laysFinal "RiverGaugeModel" "RiverGaugeModel" "pointHeight" "[I") ∈ lw_all := lw_g (lw_at lw_m7 35 rfl) rfl
theorem q1566 : (Jvm.Cond.soleField "RiverGaugeModel" "pointHeight") ∈ lw_all := lw_g (lw_at lw_m7 36 rfl) rfl
theorem q1567 : (Jvm.Cond.laysFinal "RiverGaugeModel" "RiverGaugeModel" "pointFlow" "[I") ∈ lw_all := lw_g (lw_at lw_m7 37 rfl) rfl
theorem q1568 : (Jvm.Cond.soleField "RiverGaugeModel" "pointFlow") ∈ lw_all := lw_g (lw_at lw_m7 38 rfl) rfl
theorem q1569 : (Jvm.Cond.laysFinal "RiverGaugeModel" "RiverGaugeModel" "pointMany" "[I") ∈ lw_all := lw_g (lw_at lw_m7 39 rfl) rfl
theorem q1570 : (Jvm.Cond.soleField "RiverGaugeModel" "pointMany") ∈ lw_all := lw_g (lw_at lw_m7 40 rfl) rfl
theorem q1571 : (Jvm.Cond.laysFinal "RiverGaugeModel" "RiverGaugeModel" "block" "[I") ∈ lw_all := lw_g (lw_at lw_m7 41 rfl) rfl
theorem q1572 : (Jvm.Cond.soleField "RiverGaugeModel" "block") ∈ lw_all := lw_g (lw_at lw_m7 42 rfl) rfl
theorem q1573 : (Jvm.Cond.laysFinal "RiverGaugeModel" "RiverGaugeModel" "blockMany" "[I") ∈ lw_all := lw_g (lw_at lw_m7 43 rfl) rfl
theorem q1574 : (Jvm.Cond.soleField "RiverGaugeModel" "blockMany") ∈ lw_all := lw_g (lw_at lw_m7 44 rfl) rfl
theorem q1575 : (Jvm.Cond.laysFinal "RiverGaugeModel" "RiverGaugeModel" "pointSum" "[J") ∈ lw_all := lw_g (lw_at lw_m7 45 rfl) rfl
theorem q1576 : (Jvm.Cond.soleField "RiverGaugeModel" "pointSum") ∈ lw_all := lw_g (lw_at lw_m7 46 rfl) rfl
theorem q1577 : (Jvm.Cond.laysFinal "RiverGaugeModel" "RiverGaugeModel" "blockSum" "[J") ∈ lw_all := lw_g (lw_at lw_m7 47 rfl) rfl
theorem q1578 : (Jvm.Cond.soleField "RiverGaugeModel" "blockSum") ∈ lw_all := lw_g (lw_at lw_m7 48 rfl) rfl
theorem q1579 : (Jvm.Cond.lays "RiverGaugeModel" "RiverGaugeModel" "isBeyond" "Z") ∈ lw_all := lw_g (lw_at lw_m7 49 rfl) rfl
theorem q1580 : (Jvm.Cond.soleField "RiverGaugeModel" "isBeyond") ∈ lw_all := lw_g (lw_at lw_m7 50 rfl) rfl
theorem q1581 : (Jvm.Cond.lays "RiverGaugeModel" "RiverGaugeModel" "isUnder" "Z") ∈ lw_all := lw_g (lw_at lw_m7 51 rfl) rfl
theorem q1582 : (Jvm.Cond.soleField "RiverGaugeModel" "isUnder") ∈ lw_all := lw_g (lw_at lw_m7 52 rfl) rfl
theorem q1583 : (Jvm.Cond.lays "RiverGaugeModel" "RiverGaugeModel" "reckoned" "I") ∈ lw_all := lw_g (lw_at lw_m7 53 rfl) rfl
theorem q1584 : (Jvm.Cond.soleField "RiverGaugeModel" "reckoned") ∈ lw_all := lw_g (lw_at lw_m7 54 rfl) rfl
theorem q1585 : (Jvm.Cond.lays "RiverGaugeModel" "RiverGaugeModel" "wrong" "I") ∈ lw_all := lw_g (lw_at lw_m7 55 rfl) rfl
theorem q1586 : (Jvm.Cond.soleField "RiverGaugeModel" "wrong") ∈ lw_all := lw_g (lw_at lw_m7 56 rfl) rfl
theorem q1587 : (Jvm.Cond.lays "RiverGaugeModel" "RiverGaugeModel" "runN" "I") ∈ lw_all := lw_g (lw_at lw_m7 57 rfl) rfl
theorem q1588 : (Jvm.Cond.soleField "RiverGaugeModel" "runN") ∈ lw_all := lw_g (lw_at lw_m7 58 rfl) rfl
theorem q1589 : (Jvm.Cond.laysFinal "RiverGaugeModel" "RiverGaugeModel" "runFlow" "[I") ∈ lw_all := lw_g (lw_at lw_m7 59 rfl) rfl
theorem q1590 : (Jvm.Cond.soleField "RiverGaugeModel" "runFlow") ∈ lw_all := lw_g (lw_at lw_m7 60 rfl) rfl
theorem q1591 : (Jvm.Cond.laysFinal "RiverGaugeModel" "RiverGaugeModel" "runHeight" "[I") ∈ lw_all := lw_g (lw_at lw_m7 61 rfl) rfl
theorem q1592 : (Jvm.Cond.soleField "RiverGaugeModel" "runHeight") ∈ lw_all := lw_g (lw_at lw_m7 62 rfl) rfl
theorem q1593 : (Jvm.Cond.laysFinal "RiverGaugeModel" "RiverGaugeModel" "shifts" "[I") ∈ lw_all := lw_g (lw_at lw_m7 63 rfl) rfl
theorem q1594 : (Jvm.Cond.soleField "RiverGaugeModel" "shifts") ∈ lw_all := lw_g (lw_at lw_m7 64 rfl) rfl
theorem q1595 : (Jvm.Cond.lays "RiverGaugeModel" "RiverGaugeModel" "fewest" "I") ∈ lw_all := lw_g (lw_at lw_m7 65 rfl) rfl
theorem q1596 : (Jvm.Cond.soleField "RiverGaugeModel" "fewest") ∈ lw_all := lw_g (lw_at lw_m7 66 rfl) rfl
theorem q1597 : (Jvm.Cond.lays "RiverGaugeModel" "RiverGaugeModel" "rivals" "I") ∈ lw_all := lw_g (lw_at lw_m7 67 rfl) rfl
theorem q1598 : (Jvm.Cond.soleField "RiverGaugeModel" "rivals") ∈ lw_all := lw_g (lw_at lw_m7 68 rfl) rfl
theorem q1599 : (Jvm.Cond.lays "RiverGaugeModel" "RiverGaugeModel" "least" "I") ∈ lw_all := lw_g (lw_at lw_m7 69 rfl) rfl
theorem q1600 : (Jvm.Cond.soleField "RiverGaugeModel" "least") ∈ lw_all := lw_g (lw_at lw_m7 70 rfl) rfl
theorem q1601 : (Jvm.Cond.laysFinal "RiverGaugeModel" "RiverGaugeModel" "ones" "[I") ∈ lw_all := lw_g (lw_at lw_m7 71 rfl) rfl
theorem q1602 : (Jvm.Cond.soleField "RiverGaugeModel" "ones") ∈ lw_all := lw_g (lw_at lw_m7 72 rfl) rfl
theorem q1603 : (Jvm.Cond.laysFinal "RiverGaugeModel" "RiverGaugeModel" "others" "[I") ∈ lw_all := lw_g (lw_at lw_m7 73 rfl) rfl
theorem q1604 : (Jvm.Cond.soleField "RiverGaugeModel" "others") ∈ lw_all := lw_g (lw_at lw_m7 74 rfl) rfl
theorem q1605 : (Jvm.Cond.superclass "RiverGaugeModel" "java/lang/Object") ∈ lw_all := lw_g (lw_at lw_m7 75 rfl) rfl
theorem q1607 : (Jvm.Cond.instanceMethod ({ cls := "RiverGaugeModel", name := "go", desc := "(I)I" } : Jvm.MethodName)) ∈ lw_all := lw_g (lw_at lw_m7 77 rfl) rfl
theorem q1608 : (Jvm.Cond.selects "RiverGaugeModel" ({ cls := "RiverGaugeModel", name := "go", desc := "(I)I" } : Jvm.MethodName) ({ cls := "RiverGaugeModel", name := "go", desc := "(I)I" } : Jvm.MethodName)) ∈ lw_all := lw_g (lw_at lw_m7 78 rfl) rfl
theorem q1609 : (Jvm.Cond.code ({ cls := "RiverGaugeModel", name := "go", desc := "(I)I" } : Jvm.MethodName) prog_27_method_6_code (2 : Nat) (Option.some Jvm.ClassFile.FieldType.int)) ∈ lw_all := lw_g (lw_at lw_m7 79 rfl) rfl
theorem q1610 : (Jvm.Cond.methodLink "RiverGaugeModel" (190 : Nat) ({ cls := "RiverGaugeModel", name := "no", desc := "(I)I" } : Jvm.MethodName)) ∈ lw_all := lw_g (lw_at lw_m7 80 rfl) rfl
theorem q1611 : (Jvm.Cond.privateMethod ({ cls := "RiverGaugeModel", name := "no", desc := "(I)I" } : Jvm.MethodName)) ∈ lw_tbl := lw_at lw_m7 81 rfl
theorem q1612 : (Jvm.Cond.instanceMethod ({ cls := "RiverGaugeModel", name := "no", desc := "(I)I" } : Jvm.MethodName)) ∈ lw_all := lw_g (lw_at lw_m7 82 rfl) rfl
theorem q1613 : (Jvm.Cond.code ({ cls := "RiverGaugeModel", name := "no", desc := "(I)I" } : Jvm.MethodName) prog_27_method_2_code (2 : Nat) (Option.some Jvm.ClassFile.FieldType.int)) ∈ lw_all := lw_g (lw_at lw_m7 83 rfl) rfl
theorem q1615 : (Jvm.Cond.instanceMethod ({ cls := "RiverGaugeModel", name := "post", desc := "(I)I" } : Jvm.MethodName)) ∈ lw_all := lw_g (lw_at lw_m7 85 rfl) rfl
theorem q1616 : (Jvm.Cond.selects "RiverGaugeModel" ({ cls := "RiverGaugeModel", name := "post", desc := "(I)I" } : Jvm.MethodName) ({ cls := "RiverGaugeModel", name := "post", desc := "(I)I" } : Jvm.MethodName)) ∈ lw_all := lw_g (lw_at lw_m7 86 rfl) rfl
theorem q1617 : (Jvm.Cond.code ({ cls := "RiverGaugeModel", name := "post", desc := "(I)I" } : Jvm.MethodName) prog_27_method_7_code (2 : Nat) (Option.some Jvm.ClassFile.FieldType.int)) ∈ lw_all := lw_g (lw_at lw_m7 87 rfl) rfl
theorem q1619 : (Jvm.Cond.instanceMethod ({ cls := "RiverGaugeModel", name := "moved", desc := "(III)I" } : Jvm.MethodName)) ∈ lw_all := lw_g (lw_at lw_m7 89 rfl) rfl
theorem q1620 : (Jvm.Cond.selects "RiverGaugeModel" ({ cls := "RiverGaugeModel", name := "moved", desc := "(III)I" } : Jvm.MethodName) ({ cls := "RiverGaugeModel", name := "moved", desc := "(III)I" } : Jvm.MethodName)) ∈ lw_all := lw_g (lw_at lw_m7 90 rfl) rfl
theorem q1621 : (Jvm.Cond.code ({ cls := "RiverGaugeModel", name := "moved", desc := "(III)I" } : Jvm.MethodName) prog_27_method_8_code (4 : Nat) (Option.some Jvm.ClassFile.FieldType.int)) ∈ lw_all := lw_g (lw_at lw_m7 91 rfl) rfl
theorem q1622 : (Jvm.Cond.methodLink "RiverGaugeModel" (200 : Nat) ({ cls := "RiverGaugeModel", name := "isPost", desc := "(I)Z" } : Jvm.MethodName)) ∈ lw_all := lw_g (lw_at lw_m7 92 rfl) rfl
theorem q1623 : (Jvm.Cond.privateMethod ({ cls := "RiverGaugeModel", name := "isPost", desc := "(I)Z" } : Jvm.MethodName)) ∈ lw_tbl := lw_at lw_m7 93 rfl
theorem q1624 : (Jvm.Cond.instanceMethod ({ cls := "RiverGaugeModel", name := "isPost", desc := "(I)Z" } : Jvm.MethodName)) ∈ lw_all := lw_g (lw_at lw_m7 94 rfl) rfl
theorem q1625 : (Jvm.Cond.code ({ cls := "RiverGaugeModel", name := "isPost", desc := "(I)Z" } : Jvm.MethodName) prog_27_method_4_code (2 : Nat) (Option.some Jvm.ClassFile.FieldType.boolean)) ∈ lw_all := lw_g (lw_at lw_m7 95 rfl) rfl
theorem q1627 : (Jvm.Cond.instanceMethod ({ cls := "RiverGaugeModel", name := "zeroAt", desc := "(III)I" } : Jvm.MethodName)) ∈ lw_all := lw_g (lw_at lw_m7 97 rfl) rfl
theorem q1628 : (Jvm.Cond.selects "RiverGaugeModel" ({ cls := "RiverGaugeModel", name := "zeroAt", desc := "(III)I" } : Jvm.MethodName) ({ cls := "RiverGaugeModel", name := "zeroAt", desc := "(III)I" } : Jvm.MethodName)) ∈ lw_all := lw_g (lw_at lw_m7 98 rfl) rfl
theorem q1629 : (Jvm.Cond.code ({ cls := "RiverGaugeModel", name := "zeroAt", desc := "(III)I" } : Jvm.MethodName) prog_27_method_10_code (5 : Nat) (Option.some Jvm.ClassFile.FieldType.int)) ∈ lw_all := lw_g (lw_at lw_m7 99 rfl) rfl
theorem q1630 : (Jvm.Cond.methodLink "RiverGaugeModel" (210 : Nat) ({ cls := "RiverGaugeModel", name := "times", desc := "(II)I" } : Jvm.MethodName)) ∈ lw_all := lw_g (lw_at lw_m7 100 rfl) rfl
theorem q1631 : (Jvm.Cond.static ({ cls := "RiverGaugeModel", name := "times", desc := "(II)I" } : Jvm.MethodName)) ∈ lw_all := lw_g (lw_at lw_m7 101 rfl) rfl
theorem q1632 : (Jvm.Cond.code ({ cls := "RiverGaugeModel", name := "times", desc := "(II)I" } : Jvm.MethodName) prog_27_method_5_code (2 : Nat) (Option.some Jvm.ClassFile.FieldType.int)) ∈ lw_all := lw_g (lw_at lw_m7 102 rfl) rfl
theorem q1633 : (Jvm.Cond.methodLink "RiverGaugeModel" (214 : Nat) ({ cls := "RiverGaugeModel", name := "far", desc := "(I)I" } : Jvm.MethodName)) ∈ lw_all := lw_g (lw_at lw_m7 103 rfl) rfl
theorem q1634 : (Jvm.Cond.privateMethod ({ cls := "RiverGaugeModel", name := "far", desc := "(I)I" } : Jvm.MethodName)) ∈ lw_tbl := lw_at lw_m7 104 rfl
theorem q1635 : (Jvm.Cond.instanceMethod ({ cls := "RiverGaugeModel", name := "far", desc := "(I)I" } : Jvm.MethodName)) ∈ lw_all := lw_g (lw_at lw_m7 105 rfl) rfl
theorem q1636 : (Jvm.Cond.code ({ cls := "RiverGaugeModel", name := "far", desc := "(I)I" } : Jvm.MethodName) prog_27_method_3_code (2 : Nat) (Option.some Jvm.ClassFile.FieldType.int)) ∈ lw_all := lw_g (lw_at lw_m7 106 rfl) rfl
theorem q1637 : (Jvm.Cond.constant "RiverGaugeModel" (189 : Nat) (1000000000 : Int32)) ∈ lw_all := lw_g (lw_at lw_m7 107 rfl) rfl
theorem q1638 : (Jvm.Cond.methodLink "RiverGaugeModel" (217 : Nat) ({ cls := "RiverGaugeModel", name := "zeroOf", desc := "(III)I" } : Jvm.MethodName)) ∈ lw_all := lw_g (lw_at lw_m7 108 rfl) rfl
theorem q1639 : (Jvm.Cond.privateMethod ({ cls := "RiverGaugeModel", name := "zeroOf", desc := "(III)I" } : Jvm.MethodName)) ∈ lw_tbl := lw_at lw_m7 109 rfl
theorem q1640 : (Jvm.Cond.instanceMethod ({ cls := "RiverGaugeModel", name := "zeroOf", desc := "(III)I" } : Jvm.MethodName)) ∈ lw_all := lw_g (lw_at lw_m7 110 rfl) rfl
theorem q1641 : (Jvm.Cond.code ({ cls := "RiverGaugeModel", name := "zeroOf", desc := "(III)I" } : Jvm.MethodName) prog_27_method_9_code (6 : Nat) (Option.some Jvm.ClassFile.FieldType.int)) ∈ lw_all := lw_g (lw_at lw_m7 111 rfl) rfl
theorem q1643 : (Jvm.Cond.instanceMethod ({ cls := "RiverGaugeModel", name := "height", desc := "(IIII)I" } : Jvm.MethodName)) ∈ lw_all := lw_g (lw_at lw_m7 113 rfl) rfl
theorem q1644 : (Jvm.Cond.selects "RiverGaugeModel" ({ cls := "RiverGaugeModel", name := "height", desc := "(IIII)I" } : Jvm.MethodName) ({ cls := "RiverGaugeModel", name := "height", desc := "(IIII)I" } : Jvm.MethodName)) ∈ lw_all := lw_g (lw_at lw_m7 114 rfl) rfl
theorem q1645 : (Jvm.Cond.code ({ cls := "RiverGaugeModel", name := "height", desc := "(IIII)I" } : Jvm.MethodName) prog_27_method_11_code (5 : Nat) (Option.some Jvm.ClassFile.FieldType.int)) ∈ lw_all := lw_g (lw_at lw_m7 115 rfl) rfl
theorem q1647 : (Jvm.Cond.instanceMethod ({ cls := "RiverGaugeModel", name := "strike", desc := "(I)I" } : Jvm.MethodName)) ∈ lw_all := lw_g (lw_at lw_m7 117 rfl) rfl
theorem q1648 : (Jvm.Cond.selects "RiverGaugeModel" ({ cls := "RiverGaugeModel", name := "strike", desc := "(I)I" } : Jvm.MethodName) ({ cls := "RiverGaugeModel", name := "strike", desc := "(I)I" } : Jvm.MethodName)) ∈ lw_all := lw_g (lw_at lw_m7 118 rfl) rfl
theorem q1649 : (Jvm.Cond.code ({ cls := "RiverGaugeModel", name := "strike", desc := "(I)I" } : Jvm.MethodName) prog_27_method_12_code (2 : Nat) (Option.some Jvm.ClassFile.FieldType.int)) ∈ lw_all := lw_g (lw_at lw_m7 119 rfl) rfl
theorem q1651 : (Jvm.Cond.instanceMethod ({ cls := "RiverGaugeModel", name := "isStruck", desc := "(II)I" } : Jvm.MethodName)) ∈ lw_all := lw_g (lw_at lw_m7 121 rfl) rfl
theorem q1652 : (Jvm.Cond.selects "RiverGaugeModel" ({ cls := "RiverGaugeModel", name := "isStruck", desc := "(II)I" } : Jvm.MethodName) ({ cls := "RiverGaugeModel", name := "isStruck", desc := "(II)I" } : Jvm.MethodName)) ∈ lw_all := lw_g (lw_at lw_m7 122 rfl) rfl
theorem q1653 : (Jvm.Cond.code ({ cls := "RiverGaugeModel", name := "isStruck", desc := "(II)I" } : Jvm.MethodName) prog_27_method_18_code (4 : Nat) (Option.some Jvm.ClassFile.FieldType.int)) ∈ lw_all := lw_g (lw_at lw_m7 123 rfl) rfl
theorem q1654 : (Jvm.Cond.methodLink "RiverGaugeModel" (224 : Nat) ({ cls := "RiverGaugeModel", name := "isTold", desc := "(II)Z" } : Jvm.MethodName)) ∈ lw_all := lw_g (lw_at lw_m7 124 rfl) rfl
theorem q1655 : (Jvm.Cond.privateMethod ({ cls := "RiverGaugeModel", name := "isTold", desc := "(II)Z" } : Jvm.MethodName)) ∈ lw_tbl := lw_at lw_m7 125 rfl
theorem q1656 : (Jvm.Cond.instanceMethod ({ cls := "RiverGaugeModel", name := "isTold", desc := "(II)Z" } : Jvm.MethodName)) ∈ lw_all := lw_g (lw_at lw_m7 126 rfl) rfl
theorem q1657 : (Jvm.Cond.code ({ cls := "RiverGaugeModel", name := "isTold", desc := "(II)Z" } : Jvm.MethodName) prog_27_method_13_code (3 : Nat) (Option.some Jvm.ClassFile.FieldType.boolean)) ∈ lw_all := lw_g (lw_at lw_m7 127 rfl) rfl
theorem q1658 : (Jvm.Cond.methodLink "RiverGaugeModel" (246 : Nat) ({ cls := "RiverGaugeModel", name := "isByStandard", desc := "(II)Z" } : Jvm.MethodName)) ∈ lw_all := lw_g (lw_at lw_m7 128 rfl) rfl
theorem q1659 : (Jvm.Cond.privateMethod ({ cls := "RiverGaugeModel", name := "isByStandard", desc := "(II)Z" } : Jvm.MethodName)) ∈ lw_tbl := lw_at lw_m7 129 rfl
theorem q1660 : (Jvm.Cond.instanceMethod ({ cls := "RiverGaugeModel", name := "isByStandard", desc := "(II)Z" } : Jvm.MethodName)) ∈ lw_all := lw_g (lw_at lw_m7 130 rfl) rfl
theorem q1661 : (Jvm.Cond.code ({ cls := "RiverGaugeModel", name := "isByStandard", desc := "(II)Z" } : Jvm.MethodName) prog_27_method_17_code (5 : Nat) (Option.some Jvm.ClassFile.FieldType.boolean)) ∈ lw_all := lw_g (lw_at lw_m7 131 rfl) rfl
theorem q1662 : (Jvm.Cond.methodLink "RiverGaugeModel" (231 : Nat) ({ cls := "RiverGaugeModel", name := "inForce", desc := "(III)I" } : Jvm.MethodName)) ∈ lw_all := lw_g (lw_at lw_m7 132 rfl) rfl
theorem q1663 : (Jvm.Cond.privateMethod ({ cls := "RiverGaugeModel", name := "inForce", desc := "(III)I" } : Jvm.MethodName)) ∈ lw_tbl := lw_at lw_m7 133 rfl
theorem q1664 : (Jvm.Cond.instanceMethod ({ cls := "RiverGaugeModel", name := "inForce", desc := "(III)I" } : Jvm.MethodName)) ∈ lw_all := lw_g (lw_at lw_m7 134 rfl) rfl
theorem q1665 : (Jvm.Cond.code ({ cls := "RiverGaugeModel", name := "inForce", desc := "(III)I" } : Jvm.MethodName) prog_27_method_16_code (6 : Nat) (Option.some Jvm.ClassFile.FieldType.int)) ∈ lw_all := lw_g (lw_at lw_m7 135 rfl) rfl
theorem q1666 : (Jvm.Cond.methodLink "RiverGaugeModel" (234 : Nat) ({ cls := "RiverGaugeModel", name := "ahead", desc := "(II)I" } : Jvm.MethodName)) ∈ lw_all := lw_g (lw_at lw_m7 136 rfl) rfl
theorem q1667 : (Jvm.Cond.privateMethod ({ cls := "RiverGaugeModel", name := "ahead", desc := "(II)I" } : Jvm.MethodName)) ∈ lw_tbl := lw_at lw_m7 137 rfl
theorem q1668 : (Jvm.Cond.instanceMethod ({ cls := "RiverGaugeModel", name := "ahead", desc := "(II)I" } : Jvm.MethodName)) ∈ lw_all := lw_g (lw_at lw_m7 138 rfl) rfl
theorem q1669 : (Jvm.Cond.code ({ cls := "RiverGaugeModel", name := "ahead", desc := "(II)I" } : Jvm.MethodName) prog_27_method_14_code (5 : Nat) (Option.some Jvm.ClassFile.FieldType.int)) ∈ lw_all := lw_g (lw_at lw_m7 139 rfl) rfl
theorem q1670 : (Jvm.Cond.methodLink "RiverGaugeModel" (237 : Nat) ({ cls := "RiverGaugeModel", name := "lays", desc := "(I)V" } : Jvm.MethodName)) ∈ lw_all := lw_g (lw_at lw_m7 140 rfl) rfl
theorem q1671 : (Jvm.Cond.privateMethod ({ cls := "RiverGaugeModel", name := "lays", desc := "(I)V" } : Jvm.MethodName)) ∈ lw_tbl := lw_at lw_m7 141 rfl
theorem q1672 : (Jvm.Cond.instanceMethod ({ cls := "RiverGaugeModel", name := "lays", desc := "(I)V" } : Jvm.MethodName)) ∈ lw_all := lw_g (lw_at lw_m7 142 rfl) rfl
theorem q1673 : (Jvm.Cond.code ({ cls := "RiverGaugeModel", name := "lays", desc := "(I)V" } : Jvm.MethodName) prog_27_method_15_code (3 : Nat) (Option.none : Option Jvm.ClassFile.FieldType)) ∈ lw_all := lw_g (lw_at lw_m7 143 rfl) rfl
theorem q1674 : (Jvm.Cond.constantLong "RiverGaugeModel" (241 : Nat) (9999 : Int64)) ∈ lw_all := lw_g (lw_at lw_m7 144 rfl) rfl
theorem q1675 : (Jvm.Cond.methodLink "RiverGaugeModel" (243 : Nat) ({ cls := "RiverGaugeModel", name := "says", desc := "(I)Z" } : Jvm.MethodName)) ∈ lw_all := lw_g (lw_at lw_m7 145 rfl) rfl
theorem q1676 : (Jvm.Cond.privateMethod ({ cls := "RiverGaugeModel", name := "says", desc := "(I)Z" } : Jvm.MethodName)) ∈ lw_tbl := lw_at lw_m7 146 rfl
theorem q1677 : (Jvm.Cond.instanceMethod ({ cls := "RiverGaugeModel", name := "says", desc := "(I)Z" } : Jvm.MethodName)) ∈ lw_all := lw_g (lw_at lw_m7 147 rfl) rfl
theorem q1678 : (Jvm.Cond.code ({ cls := "RiverGaugeModel", name := "says", desc := "(I)Z" } : Jvm.MethodName) prog_27_method_37_code (9 : Nat) (Option.some Jvm.ClassFile.FieldType.boolean)) ∈ lw_all := lw_g (lw_at lw_m7 148 rfl) rfl
theorem q1679 : (Jvm.Cond.methodLink "RiverGaugeModel" (314 : Nat) ({ cls := "RiverGaugeModel", name := "held", desc := "(J)J" } : Jvm.MethodName)) ∈ lw_all := lw_g (lw_at lw_m7 149 rfl) rfl
theorem q1680 : (Jvm.Cond.static ({ cls := "RiverGaugeModel", name := "held", desc := "(J)J" } : Jvm.MethodName)) ∈ lw_all := lw_g (lw_at lw_m7 150 rfl) rfl
theorem q1681 : (Jvm.Cond.code ({ cls := "RiverGaugeModel", name := "held", desc := "(J)J" } : Jvm.MethodName) prog_27_method_36_code (2 : Nat) (Option.some Jvm.ClassFile.FieldType.long)) ∈ lw_all := lw_g (lw_at lw_m7 151 rfl) rfl
theorem q1682 : (Jvm.Cond.constantLong "RiverGaugeModel" (310 : Nat) (-1000000000 : Int64)) ∈ lw_all := lw_g (lw_at lw_m7 152 rfl) rfl
theorem q1683 : (Jvm.Cond.constantLong "RiverGaugeModel" (312 : Nat) (1000000000 : Int64)) ∈ lw_all := lw_g (lw_at lw_m7 153 rfl) rfl
theorem q1685 : (Jvm.Cond.instanceMethod ({ cls := "RiverGaugeModel", name := "heightAt", desc := "(III)I" } : Jvm.MethodName)) ∈ lw_all := lw_g (lw_at lw_m7 155 rfl) rfl
theorem q1686 : (Jvm.Cond.selects "RiverGaugeModel" ({ cls := "RiverGaugeModel", name := "heightAt", desc := "(III)I" } : Jvm.MethodName) ({ cls := "RiverGaugeModel", name := "heightAt", desc := "(III)I" } : Jvm.MethodName)) ∈ lw_all := lw_g (lw_at lw_m7 156 rfl) rfl
theorem q1687 : (Jvm.Cond.code ({ cls := "RiverGaugeModel", name := "heightAt", desc := "(III)I" } : Jvm.MethodName) prog_27_method_21_code (5 : Nat) (Option.some Jvm.ClassFile.FieldType.int)) ∈ lw_all := lw_g (lw_at lw_m7 157 rfl) rfl
theorem q1688 : (Jvm.Cond.methodLink "RiverGaugeModel" (255 : Nat) ({ cls := "RiverGaugeModel", name := "has", desc := "(III)Z" } : Jvm.MethodName)) ∈ lw_all := lw_g (lw_at lw_m7 158 rfl) rfl
theorem q1689 : (Jvm.Cond.privateMethod ({ cls := "RiverGaugeModel", name := "has", desc := "(III)Z" } : Jvm.MethodName)) ∈ lw_tbl := lw_at lw_m7 159 rfl
theorem q1690 : (Jvm.Cond.instanceMethod ({ cls := "RiverGaugeModel", name := "has", desc := "(III)Z" } : Jvm.MethodName)) ∈ lw_all := lw_g (lw_at lw_m7 160 rfl) rfl
theorem q1691 : (Jvm.Cond.code ({ cls := "RiverGaugeModel", name := "has", desc := "(III)Z" } : Jvm.MethodName) prog_27_method_20_code (5 : Nat) (Option.some Jvm.ClassFile.FieldType.boolean)) ∈ lw_all := lw_g (lw_at lw_m7 161 rfl) rfl
theorem q1692 : (Jvm.Cond.methodLink "RiverGaugeModel" (249 : Nat) ({ cls := "RiverGaugeModel", name := "which", desc := "(III)I" } : Jvm.MethodName)) ∈ lw_all := lw_g (lw_at lw_m7 162 rfl) rfl
theorem q1693 : (Jvm.Cond.privateMethod ({ cls := "RiverGaugeModel", name := "which", desc := "(III)I" } : Jvm.MethodName)) ∈ lw_tbl := lw_at lw_m7 163 rfl
theorem q1694 : (Jvm.Cond.instanceMethod ({ cls := "RiverGaugeModel", name := "which", desc := "(III)I" } : Jvm.MethodName)) ∈ lw_all := lw_g (lw_at lw_m7 164 rfl) rfl
theorem q1695 : (Jvm.Cond.code ({ cls := "RiverGaugeModel", name := "which", desc := "(III)I" } : Jvm.MethodName) prog_27_method_19_code (6 : Nat) (Option.some Jvm.ClassFile.FieldType.int)) ∈ lw_all := lw_g (lw_at lw_m7 165 rfl) rfl
theorem q1697 : (Jvm.Cond.instanceMethod ({ cls := "RiverGaugeModel", name := "measure", desc := "(IIII)I" } : Jvm.MethodName)) ∈ lw_all := lw_g (lw_at lw_m7 167 rfl) rfl
theorem q1698 : (Jvm.Cond.selects "RiverGaugeModel" ({ cls := "RiverGaugeModel", name := "measure", desc := "(IIII)I" } : Jvm.MethodName) ({ cls := "RiverGaugeModel", name := "measure", desc := "(IIII)I" } : Jvm.MethodName)) ∈ lw_all := lw_g (lw_at lw_m7 168 rfl) rfl
theorem q1699 : (Jvm.Cond.code ({ cls := "RiverGaugeModel", name := "measure", desc := "(IIII)I" } : Jvm.MethodName) prog_27_method_22_code (5 : Nat) (Option.some Jvm.ClassFile.FieldType.int)) ∈ lw_all := lw_g (lw_at lw_m7 169 rfl) rfl
theorem q1700 : (Jvm.Cond.constant "RiverGaugeModel" (259 : Nat) (99999 : Int32)) ∈ lw_all := lw_g (lw_at lw_m7 170 rfl) rfl
theorem q1702 : (Jvm.Cond.instanceMethod ({ cls := "RiverGaugeModel", name := "drop", desc := "(I)I" } : Jvm.MethodName)) ∈ lw_all := lw_g (lw_at lw_m7 172 rfl) rfl
theorem q1703 : (Jvm.Cond.selects "RiverGaugeModel" ({ cls := "RiverGaugeModel", name := "drop", desc := "(I)I" } : Jvm.MethodName) ({ cls := "RiverGaugeModel", name := "drop", desc := "(I)I" } : Jvm.MethodName)) ∈ lw_all := lw_g (lw_at lw_m7 173 rfl) rfl
theorem q1704 : (Jvm.Cond.code ({ cls := "RiverGaugeModel", name := "drop", desc := "(I)I" } : Jvm.MethodName) prog_27_method_23_code (2 : Nat) (Option.some Jvm.ClassFile.FieldType.int)) ∈ lw_all := lw_g (lw_at lw_m7 174 rfl) rfl
theorem q1706 : (Jvm.Cond.instanceMethod ({ cls := "RiverGaugeModel", name := "counts", desc := "(II)I" } : Jvm.MethodName)) ∈ lw_all := lw_g (lw_at lw_m7 176 rfl) rfl
theorem q1707 : (Jvm.Cond.selects "RiverGaugeModel" ({ cls := "RiverGaugeModel", name := "counts", desc := "(II)I" } : Jvm.MethodName) ({ cls := "RiverGaugeModel", name := "counts", desc := "(II)I" } : Jvm.MethodName)) ∈ lw_all := lw_g (lw_at lw_m7 177 rfl) rfl
theorem q1708 : (Jvm.Cond.code ({ cls := "RiverGaugeModel", name := "counts", desc := "(II)I" } : Jvm.MethodName) prog_27_method_25_code (4 : Nat) (Option.some Jvm.ClassFile.FieldType.int)) ∈ lw_all := lw_g (lw_at lw_m7 178 rfl) rfl
theorem q1709 : (Jvm.Cond.methodLink "RiverGaugeModel" (263 : Nat) ({ cls := "RiverGaugeModel", name := "isIn", desc := "(II)Z" } : Jvm.MethodName)) ∈ lw_all := lw_g (lw_at lw_m7 179 rfl) rfl
theorem q1710 : (Jvm.Cond.privateMethod ({ cls := "RiverGaugeModel", name := "isIn", desc := "(II)Z" } : Jvm.MethodName)) ∈ lw_tbl := lw_at lw_m7 180 rfl
theorem q1711 : (Jvm.Cond.instanceMethod ({ cls := "RiverGaugeModel", name := "isIn", desc := "(II)Z" } : Jvm.MethodName)) ∈ lw_all := lw_g (lw_at lw_m7 181 rfl) rfl
theorem q1712 : (Jvm.Cond.code ({ cls := "RiverGaugeModel", name := "isIn", desc := "(II)Z" } : Jvm.MethodName) prog_27_method_24_code (3 : Nat) (Option.some Jvm.ClassFile.FieldType.boolean)) ∈ lw_all := lw_g (lw_at lw_m7 182 rfl) rfl
theorem q1714 : (Jvm.Cond.instanceMethod ({ cls := "RiverGaugeModel", name := "feed", desc := "(IJ)I" } : Jvm.MethodName)) ∈ lw_all := lw_g (lw_at lw_m7 184 rfl) rfl
theorem q1715 : (Jvm.Cond.selects "RiverGaugeModel" ({ cls := "RiverGaugeModel", name := "feed", desc := "(IJ)I" } : Jvm.MethodName) ({ cls := "RiverGaugeModel", name := "feed", desc := "(IJ)I" } : Jvm.MethodName)) ∈ lw_all := lw_g (lw_at lw_m7 185 rfl) rfl
theorem q1716 : (Jvm.Cond.code ({ cls := "RiverGaugeModel", name := "feed", desc := "(IJ)I" } : Jvm.MethodName) prog_27_method_26_code (5 : Nat) (Option.some Jvm.ClassFile.FieldType.int)) ∈ lw_all := lw_g (lw_at lw_m7 186 rfl) rfl
theorem q1717 : (Jvm.Cond.constantLong "RiverGaugeModel" (269 : Nat) (255 : Int64)) ∈ lw_all := lw_g (lw_at lw_m7 187 rfl) rfl
theorem q1719 : (Jvm.Cond.instanceMethod ({ cls := "RiverGaugeModel", name := "standard", desc := "(II)I" } : Jvm.MethodName)) ∈ lw_all := lw_g (lw_at lw_m7 189 rfl) rfl
theorem q1720 : (Jvm.Cond.selects "RiverGaugeModel" ({ cls := "RiverGaugeModel", name := "standard", desc := "(II)I" } : Jvm.MethodName) ({ cls := "RiverGaugeModel", name := "standard", desc := "(II)I" } : Jvm.MethodName)) ∈ lw_all := lw_g (lw_at lw_m7 190 rfl) rfl
theorem q1721 : (Jvm.Cond.code ({ cls := "RiverGaugeModel", name := "standard", desc := "(II)I" } : Jvm.MethodName) prog_27_method_35_code (5 : Nat) (Option.some Jvm.ClassFile.FieldType.int)) ∈ lw_all := lw_g (lw_at lw_m7 191 rfl) rfl
theorem q1722 : (Jvm.Cond.methodLink "RiverGaugeModel" (307 : Nat) ({ cls := "RiverGaugeModel", name := "isText", desc := "()Z" } : Jvm.MethodName)) ∈ lw_all := lw_g (lw_at lw_m7 192 rfl) rfl
theorem q1723 : (Jvm.Cond.privateMethod ({ cls := "RiverGaugeModel", name := "isText", desc := "()Z" } : Jvm.MethodName)) ∈ lw_tbl := lw_at lw_m7 193 rfl
theorem q1724 : (Jvm.Cond.instanceMethod ({ cls := "RiverGaugeModel", name := "isText", desc := "()Z" } : Jvm.MethodName)) ∈ lw_all := lw_g (lw_at lw_m7 194 rfl) rfl
theorem q1725 : (Jvm.Cond.code ({ cls := "RiverGaugeModel", name := "isText", desc := "()Z" } : Jvm.MethodName) prog_27_method_34_code (4 : Nat) (Option.some Jvm.ClassFile.FieldType.boolean)) ∈ lw_all := lw_g (lw_at lw_m7 195 rfl) rfl
theorem q1726 : (Jvm.Cond.methodLink "RiverGaugeModel" (274 : Nat) ({ cls := "RiverGaugeModel", name := "sign", desc := "()I" } : Jvm.MethodName)) ∈ lw_all := lw_g (lw_at lw_m7 196 rfl) rfl
theorem q1727 : (Jvm.Cond.privateMethod ({ cls := "RiverGaugeModel", name := "sign", desc := "()I" } : Jvm.MethodName)) ∈ lw_tbl := lw_at lw_m7 197 rfl
theorem q1728 : (Jvm.Cond.instanceMethod ({ cls := "RiverGaugeModel", name := "sign", desc := "()I" } : Jvm.MethodName)) ∈ lw_all := lw_g (lw_at lw_m7 198 rfl) rfl
theorem q1729 : (Jvm.Cond.code ({ cls := "RiverGaugeModel", name := "sign", desc := "()I" } : Jvm.MethodName) prog_27_method_27_code (1 : Nat) (Option.some Jvm.ClassFile.FieldType.int)) ∈ lw_all := lw_g (lw_at lw_m7 199 rfl) rfl
theorem q1730 : (Jvm.Cond.methodLink "RiverGaugeModel" (297 : Nat) ({ cls := "RiverGaugeModel", name := "isTest", desc := "()Z" } : Jvm.MethodName)) ∈ lw_all := lw_g (lw_at lw_m7 200 rfl) rfl
theorem q1731 : (Jvm.Cond.privateMethod ({ cls := "RiverGaugeModel", name := "isTest", desc := "()Z" } : Jvm.MethodName)) ∈ lw_tbl := lw_at lw_m7 201 rfl
theorem q1732 : (Jvm.Cond.instanceMethod ({ cls := "RiverGaugeModel", name := "isTest", desc := "()Z" } : Jvm.MethodName)) ∈ lw_all := lw_g (lw_at lw_m7 202 rfl) rfl
theorem q1733 : (Jvm.Cond.code ({ cls := "RiverGaugeModel", name := "isTest", desc := "()Z" } : Jvm.MethodName) prog_27_method_31_code (2 : Nat) (Option.some Jvm.ClassFile.FieldType.boolean)) ∈ lw_all := lw_g (lw_at lw_m7 203 rfl) rfl
theorem q1734 : (Jvm.Cond.methodLink "RiverGaugeModel" (288 : Nat) ({ cls := "RiverGaugeModel", name := "isSum", desc := "()Z" } : Jvm.MethodName)) ∈ lw_all := lw_g (lw_at lw_m7 204 rfl) rfl
theorem q1735 : (Jvm.Cond.privateMethod ({ cls := "RiverGaugeModel", name := "isSum", desc := "()Z" } : Jvm.MethodName)) ∈ lw_tbl := lw_at lw_m7 205 rfl
theorem q1736 : (Jvm.Cond.instanceMethod ({ cls := "RiverGaugeModel", name := "isSum", desc := "()Z" } : Jvm.MethodName)) ∈ lw_all := lw_g (lw_at lw_m7 206 rfl) rfl
theorem q1737 : (Jvm.Cond.code ({ cls := "RiverGaugeModel", name := "isSum", desc := "()Z" } : Jvm.MethodName) prog_27_method_30_code (2 : Nat) (Option.some Jvm.ClassFile.FieldType.boolean)) ∈ lw_all := lw_g (lw_at lw_m7 207 rfl) rfl
theorem q1738 : (Jvm.Cond.methodLink "RiverGaugeModel" (284 : Nat) ({ cls := "RiverGaugeModel", name := "isUnit", desc := "()Z" } : Jvm.MethodName)) ∈ lw_all := lw_g (lw_at lw_m7 208 rfl) rfl
theorem q1739 : (Jvm.Cond.privateMethod ({ cls := "RiverGaugeModel", name := "isUnit", desc := "()Z" } : Jvm.MethodName)) ∈ lw_tbl := lw_at lw_m7 209 rfl
theorem q1740 : (Jvm.Cond.instanceMethod ({ cls := "RiverGaugeModel", name := "isUnit", desc := "()Z" } : Jvm.MethodName)) ∈ lw_all := lw_g (lw_at lw_m7 210 rfl) rfl
theorem q1741 : (Jvm.Cond.code ({ cls := "RiverGaugeModel", name := "isUnit", desc := "()Z" } : Jvm.MethodName) prog_27_method_29_code (4 : Nat) (Option.some Jvm.ClassFile.FieldType.boolean)) ∈ lw_all := lw_g (lw_at lw_m7 211 rfl) rfl
theorem q1742 : (Jvm.Cond.methodLink "RiverGaugeModel" (278 : Nat) ({ cls := "RiverGaugeModel", name := "isLetter", desc := "(I)Z" } : Jvm.MethodName)) ∈ lw_all := lw_g (lw_at lw_m7 212 rfl) rfl
theorem q1743 : (Jvm.Cond.static ({ cls := "RiverGaugeModel", name := "isLetter", desc := "(I)Z" } : Jvm.MethodName)) ∈ lw_all := lw_g (lw_at lw_m7 213 rfl) rfl
theorem q1744 : (Jvm.Cond.code ({ cls := "RiverGaugeModel", name := "isLetter", desc := "(I)Z" } : Jvm.MethodName) prog_27_method_28_code (1 : Nat) (Option.some Jvm.ClassFile.FieldType.boolean)) ∈ lw_all := lw_g (lw_at lw_m7 214 rfl) rfl
theorem q1745 : (Jvm.Cond.methodLink "RiverGaugeModel" (300 : Nat) ({ cls := "RiverGaugeModel", name := "denies", desc := "()V" } : Jvm.MethodName)) ∈ lw_all := lw_g (lw_at lw_m7 215 rfl) rfl
theorem q1746 : (Jvm.Cond.privateMethod ({ cls := "RiverGaugeModel", name := "denies", desc := "()V" } : Jvm.MethodName)) ∈ lw_tbl := lw_at lw_m7 216 rfl
theorem q1747 : (Jvm.Cond.instanceMethod ({ cls := "RiverGaugeModel", name := "denies", desc := "()V" } : Jvm.MethodName)) ∈ lw_all := lw_g (lw_at lw_m7 217 rfl) rfl
theorem q1748 : (Jvm.Cond.code ({ cls := "RiverGaugeModel", name := "denies", desc := "()V" } : Jvm.MethodName) prog_27_method_32_code (1 : Nat) (Option.none : Option Jvm.ClassFile.FieldType)) ∈ lw_all := lw_g (lw_at lw_m7 218 rfl) rfl
theorem q1749 : (Jvm.Cond.methodLink "RiverGaugeModel" (303 : Nat) ({ cls := "RiverGaugeModel", name := "pops", desc := "(Z)V" } : Jvm.MethodName)) ∈ lw_all := lw_g (lw_at lw_m7 219 rfl) rfl
theorem q1750 : (Jvm.Cond.privateMethod ({ cls := "RiverGaugeModel", name := "pops", desc := "(Z)V" } : Jvm.MethodName)) ∈ lw_tbl := lw_at lw_m7 220 rfl
theorem q1751 : (Jvm.Cond.instanceMethod ({ cls := "RiverGaugeModel", name := "pops", desc := "(Z)V" } : Jvm.MethodName)) ∈ lw_all := lw_g (lw_at lw_m7 221 rfl) rfl
theorem q1752 : (Jvm.Cond.code ({ cls := "RiverGaugeModel", name := "pops", desc := "(Z)V" } : Jvm.MethodName) prog_27_method_33_code (2 : Nat) (Option.none : Option Jvm.ClassFile.FieldType)) ∈ lw_all := lw_g (lw_at lw_m7 222 rfl) rfl
theorem q1754 : (Jvm.Cond.instanceMethod ({ cls := "RiverGaugeModel", name := "low", desc := "(II)I" } : Jvm.MethodName)) ∈ lw_all := lw_g (lw_at lw_m7 224 rfl) rfl
theorem q1755 : (Jvm.Cond.selects "RiverGaugeModel" ({ cls := "RiverGaugeModel", name := "low", desc := "(II)I" } : Jvm.MethodName) ({ cls := "RiverGaugeModel", name := "low", desc := "(II)I" } : Jvm.MethodName)) ∈ lw_all := lw_g (lw_at lw_m7 225 rfl) rfl
theorem q1756 : (Jvm.Cond.code ({ cls := "RiverGaugeModel", name := "low", desc := "(II)I" } : Jvm.MethodName) prog_27_method_38_code (4 : Nat) (Option.some Jvm.ClassFile.FieldType.int)) ∈ lw_all := lw_g (lw_at lw_m7 226 rfl) rfl
theorem q1758 : (Jvm.Cond.instanceMethod ({ cls := "RiverGaugeModel", name := "stretch", desc := "(II)I" } : Jvm.MethodName)) ∈ lw_all := lw_g (lw_at lw_m7 228 rfl) rfl
theorem q1759 : (Jvm.Cond.selects "RiverGaugeModel" ({ cls := "RiverGaugeModel", name := "stretch", desc := "(II)I" } : Jvm.MethodName) ({ cls := "RiverGaugeModel", name := "stretch", desc := "(II)I" } : Jvm.MethodName)) ∈ lw_all := lw_g (lw_at lw_m7 229 rfl) rfl
theorem q1760 : (Jvm.Cond.code ({ cls := "RiverGaugeModel", name := "stretch", desc := "(II)I" } : Jvm.MethodName) prog_27_method_39_code (4 : Nat) (Option.some Jvm.ClassFile.FieldType.int)) ∈ lw_all := lw_g (lw_at lw_m7 230 rfl) rfl
theorem q1762 : (Jvm.Cond.instanceMethod ({ cls := "RiverGaugeModel", name := "points", desc := "(III)I" } : Jvm.MethodName)) ∈ lw_all := lw_g (lw_at lw_m7 232 rfl) rfl
theorem q1763 : (Jvm.Cond.selects "RiverGaugeModel" ({ cls := "RiverGaugeModel", name := "points", desc := "(III)I" } : Jvm.MethodName) ({ cls := "RiverGaugeModel", name := "points", desc := "(III)I" } : Jvm.MethodName)) ∈ lw_all := lw_g (lw_at lw_m7 233 rfl) rfl
theorem q1764 : (Jvm.Cond.code ({ cls := "RiverGaugeModel", name := "points", desc := "(III)I" } : Jvm.MethodName) prog_27_method_44_code (5 : Nat) (Option.some Jvm.ClassFile.FieldType.int)) ∈ lw_all := lw_g (lw_at lw_m7 234 rfl) rfl
theorem q1765 : (Jvm.Cond.methodLink "RiverGaugeModel" (347 : Nat) ({ cls := "RiverGaugeModel", name := "known", desc := "(III)I" } : Jvm.MethodName)) ∈ lw_all := lw_g (lw_at lw_m7 235 rfl) rfl
theorem q1766 : (Jvm.Cond.privateMethod ({ cls := "RiverGaugeModel", name := "known", desc := "(III)I" } : Jvm.MethodName)) ∈ lw_tbl := lw_at lw_m7 236 rfl
theorem q1767 : (Jvm.Cond.instanceMethod ({ cls := "RiverGaugeModel", name := "known", desc := "(III)I" } : Jvm.MethodName)) ∈ lw_all := lw_g (lw_at lw_m7 237 rfl) rfl
theorem q1768 : (Jvm.Cond.code ({ cls := "RiverGaugeModel", name := "known", desc := "(III)I" } : Jvm.MethodName) prog_27_method_43_code (4 : Nat) (Option.some Jvm.ClassFile.FieldType.int)) ∈ lw_all := lw_g (lw_at lw_m7 238 rfl) rfl
theorem q1769 : (Jvm.Cond.methodLink "RiverGaugeModel" (350 : Nat) ({ cls := "RiverGaugeModel", name := "makes", desc := "(III)V" } : Jvm.MethodName)) ∈ lw_all := lw_g (lw_at lw_m7 239 rfl) rfl
theorem q1770 : (Jvm.Cond.privateMethod ({ cls := "RiverGaugeModel", name := "makes", desc := "(III)V" } : Jvm.MethodName)) ∈ lw_tbl := lw_at lw_m8 0 rfl
theorem q1771 : (Jvm.Cond.instanceMethod ({ cls := "RiverGaugeModel", name := "makes", desc := "(III)V" } : Jvm.MethodName)) ∈ lw_all := lw_g (lw_at lw_m8 1 rfl) rfl
theorem q1772 : (Jvm.Cond.code ({ cls := "RiverGaugeModel", name := "makes", desc := "(III)V" } : Jvm.MethodName) prog_27_method_40_code (8 : Nat) (Option.none : Option Jvm.ClassFile.FieldType)) ∈ lw_all := lw_g (lw_at lw_m8 2 rfl) rfl
theorem q1773 : (Jvm.Cond.methodLink "RiverGaugeModel" (318 : Nat) ({ cls := "RiverGaugeModel", name := "makes", desc := "(IIII)V" } : Jvm.MethodName)) ∈ lw_all := lw_g (lw_at lw_m8 3 rfl) rfl
theorem q1774 : (Jvm.Cond.privateMethod ({ cls := "RiverGaugeModel", name := "makes", desc := "(IIII)V" } : Jvm.MethodName)) ∈ lw_tbl := lw_at lw_m8 4 rfl
theorem q1775 : (Jvm.Cond.instanceMethod ({ cls := "RiverGaugeModel", name := "makes", desc := "(IIII)V" } : Jvm.MethodName)) ∈ lw_all := lw_g (lw_at lw_m8 5 rfl) rfl
theorem q1776 : (Jvm.Cond.code ({ cls := "RiverGaugeModel", name := "makes", desc := "(IIII)V" } : Jvm.MethodName) prog_27_method_41_code (8 : Nat) (Option.none : Option Jvm.ClassFile.FieldType)) ∈ lw_all := lw_g (lw_at lw_m8 6 rfl) rfl
theorem q1778 : (Jvm.Cond.instanceMethod ({ cls := "RiverGaugeModel", name := "point", desc := "(IIIII)I" } : Jvm.MethodName)) ∈ lw_all := lw_g (lw_at lw_m8 8 rfl) rfl
theorem q1779 : (Jvm.Cond.selects "RiverGaugeModel" ({ cls := "RiverGaugeModel", name := "point", desc := "(IIIII)I" } : Jvm.MethodName) ({ cls := "RiverGaugeModel", name := "point", desc := "(IIIII)I" } : Jvm.MethodName)) ∈ lw_all := lw_g (lw_at lw_m8 9 rfl) rfl
theorem q1780 : (Jvm.Cond.code ({ cls := "RiverGaugeModel", name := "point", desc := "(IIIII)I" } : Jvm.MethodName) prog_27_method_45_code (7 : Nat) (Option.some Jvm.ClassFile.FieldType.int)) ∈ lw_all := lw_g (lw_at lw_m8 10 rfl) rfl
theorem q1782 : (Jvm.Cond.instanceMethod ({ cls := "RiverGaugeModel", name := "flowAt", desc := "(III)I" } : Jvm.MethodName)) ∈ lw_all := lw_g (lw_at lw_m8 12 rfl) rfl
theorem q1783 : (Jvm.Cond.selects "RiverGaugeModel" ({ cls := "RiverGaugeModel", name := "flowAt", desc := "(III)I" } : Jvm.MethodName) ({ cls := "RiverGaugeModel", name := "flowAt", desc := "(III)I" } : Jvm.MethodName)) ∈ lw_all := lw_g (lw_at lw_m8 13 rfl) rfl
theorem q1784 : (Jvm.Cond.code ({ cls := "RiverGaugeModel", name := "flowAt", desc := "(III)I" } : Jvm.MethodName) prog_27_method_46_code (4 : Nat) (Option.some Jvm.ClassFile.FieldType.int)) ∈ lw_all := lw_g (lw_at lw_m8 14 rfl) rfl
theorem q1785 : (Jvm.Cond.methodLink "RiverGaugeModel" (353 : Nat) ({ cls := "RiverGaugeModel", name := "along", desc := "([I[IIIII)I" } : Jvm.MethodName)) ∈ lw_all := lw_g (lw_at lw_m8 15 rfl) rfl
theorem q1786 : (Jvm.Cond.privateMethod ({ cls := "RiverGaugeModel", name := "along", desc := "([I[IIIII)I" } : Jvm.MethodName)) ∈ lw_tbl := lw_at lw_m8 16 rfl
theorem q1787 : (Jvm.Cond.instanceMethod ({ cls := "RiverGaugeModel", name := "along", desc := "([I[IIIII)I" } : Jvm.MethodName)) ∈ lw_all := lw_g (lw_at lw_m8 17 rfl) rfl
theorem q1788 : (Jvm.Cond.code ({ cls := "RiverGaugeModel", name := "along", desc := "([I[IIIII)I" } : Jvm.MethodName) prog_27_method_42_code (10 : Nat) (Option.some Jvm.ClassFile.FieldType.int)) ∈ lw_all := lw_g (lw_at lw_m8 18 rfl) rfl
theorem q1789 : (Jvm.Cond.constantLong "RiverGaugeModel" (344 : Nat) (99999999 : Int64)) ∈ lw_all := lw_g (lw_at lw_m8 19 rfl) rfl
theorem q1790 : (Jvm.Cond.constant "RiverGaugeModel" (346 : Nat) (99999999 : Int32)) ∈ lw_all := lw_g (lw_at lw_m8 20 rfl) rfl
theorem q1792 : (Jvm.Cond.instanceMethod ({ cls := "RiverGaugeModel", name := "under", desc := "(IIIII)I" } : Jvm.MethodName)) ∈ lw_all := lw_g (lw_at lw_m8 22 rfl) rfl
theorem q1793 : (Jvm.Cond.selects "RiverGaugeModel" ({ cls := "RiverGaugeModel", name := "under", desc := "(IIIII)I" } : Jvm.MethodName) ({ cls := "RiverGaugeModel", name := "under", desc := "(IIIII)I" } : Jvm.MethodName)) ∈ lw_all := lw_g (lw_at lw_m8 23 rfl) rfl
theorem q1794 : (Jvm.Cond.code ({ cls := "RiverGaugeModel", name := "under", desc := "(IIIII)I" } : Jvm.MethodName) prog_27_method_47_code (6 : Nat) (Option.some Jvm.ClassFile.FieldType.int)) ∈ lw_all := lw_g (lw_at lw_m8 24 rfl) rfl
theorem q1796 : (Jvm.Cond.instanceMethod ({ cls := "RiverGaugeModel", name := "flowOf", desc := "(IIII)I" } : Jvm.MethodName)) ∈ lw_all := lw_g (lw_at lw_m8 26 rfl) rfl
theorem q1797 : (Jvm.Cond.selects "RiverGaugeModel" ({ cls := "RiverGaugeModel", name := "flowOf", desc := "(IIII)I" } : Jvm.MethodName) ({ cls := "RiverGaugeModel", name := "flowOf", desc := "(IIII)I" } : Jvm.MethodName)) ∈ lw_all := lw_g (lw_at lw_m8 27 rfl) rfl
theorem q1798 : (Jvm.Cond.code ({ cls := "RiverGaugeModel", name := "flowOf", desc := "(IIII)I" } : Jvm.MethodName) prog_27_method_50_code (6 : Nat) (Option.some Jvm.ClassFile.FieldType.int)) ∈ lw_all := lw_g (lw_at lw_m8 28 rfl) rfl
theorem q1799 : (Jvm.Cond.methodLink "RiverGaugeModel" (375 : Nat) ({ cls := "RiverGaugeModel", name := "flows", desc := "(III)Z" } : Jvm.MethodName)) ∈ lw_all := lw_g (lw_at lw_m8 29 rfl) rfl
theorem q1800 : (Jvm.Cond.privateMethod ({ cls := "RiverGaugeModel", name := "flows", desc := "(III)Z" } : Jvm.MethodName)) ∈ lw_tbl := lw_at lw_m8 30 rfl
theorem q1801 : (Jvm.Cond.instanceMethod ({ cls := "RiverGaugeModel", name := "flows", desc := "(III)Z" } : Jvm.MethodName)) ∈ lw_all := lw_g (lw_at lw_m8 31 rfl) rfl
theorem q1802 : (Jvm.Cond.code ({ cls := "RiverGaugeModel", name := "flows", desc := "(III)Z" } : Jvm.MethodName) prog_27_method_49_code (6 : Nat) (Option.some Jvm.ClassFile.FieldType.boolean)) ∈ lw_all := lw_g (lw_at lw_m8 32 rfl) rfl
theorem q1803 : (Jvm.Cond.methodLink "RiverGaugeModel" (366 : Nat) ({ cls := "RiverGaugeModel", name := "hundredths", desc := "(IIII)I" } : Jvm.MethodName)) ∈ lw_all := lw_g (lw_at lw_m8 33 rfl) rfl
theorem q1804 : (Jvm.Cond.privateMethod ({ cls := "RiverGaugeModel", name := "hundredths", desc := "(IIII)I" } : Jvm.MethodName)) ∈ lw_tbl := lw_at lw_m8 34 rfl
theorem q1805 : (Jvm.Cond.instanceMethod ({ cls := "RiverGaugeModel", name := "hundredths", desc := "(IIII)I" } : Jvm.MethodName)) ∈ lw_all := lw_g (lw_at lw_m8 35 rfl) rfl
theorem q1806 : (Jvm.Cond.code ({ cls := "RiverGaugeModel", name := "hundredths", desc := "(IIII)I" } : Jvm.MethodName) prog_27_method_48_code (8 : Nat) (Option.some Jvm.ClassFile.FieldType.int)) ∈ lw_all := lw_g (lw_at lw_m8 36 rfl) rfl
theorem q1807 : (Jvm.Cond.constantLong "RiverGaugeModel" (370 : Nat) (100 : Int64)) ∈ lw_all := lw_g (lw_at lw_m8 37 rfl) rfl
theorem q1809 : (Jvm.Cond.instanceMethod ({ cls := "RiverGaugeModel", name := "base", desc := "(IIII)I" } : Jvm.MethodName)) ∈ lw_all := lw_g (lw_at lw_m8 39 rfl) rfl
theorem q1810 : (Jvm.Cond.selects "RiverGaugeModel" ({ cls := "RiverGaugeModel", name := "base", desc := "(IIII)I" } : Jvm.MethodName) ({ cls := "RiverGaugeModel", name := "base", desc := "(IIII)I" } : Jvm.MethodName)) ∈ lw_all := lw_g (lw_at lw_m8 40 rfl) rfl
theorem q1811 : (Jvm.Cond.code ({ cls := "RiverGaugeModel", name := "base", desc := "(IIII)I" } : Jvm.MethodName) prog_27_method_51_code (5 : Nat) (Option.some Jvm.ClassFile.FieldType.int)) ∈ lw_all := lw_g (lw_at lw_m8 41 rfl) rfl
theorem q1813 : (Jvm.Cond.instanceMethod ({ cls := "RiverGaugeModel", name := "breaks", desc := "(II)I" } : Jvm.MethodName)) ∈ lw_all := lw_g (lw_at lw_m8 43 rfl) rfl
theorem q1814 : (Jvm.Cond.selects "RiverGaugeModel" ({ cls := "RiverGaugeModel", name := "breaks", desc := "(II)I" } : Jvm.MethodName) ({ cls := "RiverGaugeModel", name := "breaks", desc := "(II)I" } : Jvm.MethodName)) ∈ lw_all := lw_g (lw_at lw_m8 44 rfl) rfl
theorem q1815 : (Jvm.Cond.code ({ cls := "RiverGaugeModel", name := "breaks", desc := "(II)I" } : Jvm.MethodName) prog_27_method_59_code (3 : Nat) (Option.some Jvm.ClassFile.FieldType.int)) ∈ lw_all := lw_g (lw_at lw_m8 45 rfl) rfl
theorem q1816 : (Jvm.Cond.methodLink "RiverGaugeModel" (405 : Nat) ({ cls := "RiverGaugeModel", name := "gathers", desc := "(I)V" } : Jvm.MethodName)) ∈ lw_all := lw_g (lw_at lw_m8 46 rfl) rfl
theorem q1817 : (Jvm.Cond.privateMethod ({ cls := "RiverGaugeModel", name := "gathers", desc := "(I)V" } : Jvm.MethodName)) ∈ lw_tbl := lw_at lw_m8 47 rfl
theorem q1818 : (Jvm.Cond.instanceMethod ({ cls := "RiverGaugeModel", name := "gathers", desc := "(I)V" } : Jvm.MethodName)) ∈ lw_all := lw_g (lw_at lw_m8 48 rfl) rfl
theorem q1819 : (Jvm.Cond.code ({ cls := "RiverGaugeModel", name := "gathers", desc := "(I)V" } : Jvm.MethodName) prog_27_method_52_code (6 : Nat) (Option.none : Option Jvm.ClassFile.FieldType)) ∈ lw_all := lw_g (lw_at lw_m8 49 rfl) rfl
theorem q1820 : (Jvm.Cond.methodLink "RiverGaugeModel" (408 : Nat) ({ cls := "RiverGaugeModel", name := "seeks", desc := "(I)V" } : Jvm.MethodName)) ∈ lw_all := lw_g (lw_at lw_m8 50 rfl) rfl
theorem q1821 : (Jvm.Cond.privateMethod ({ cls := "RiverGaugeModel", name := "seeks", desc := "(I)V" } : Jvm.MethodName)) ∈ lw_tbl := lw_at lw_m8 51 rfl
theorem q1822 : (Jvm.Cond.instanceMethod ({ cls := "RiverGaugeModel", name := "seeks", desc := "(I)V" } : Jvm.MethodName)) ∈ lw_all := lw_g (lw_at lw_m8 52 rfl) rfl
theorem q1823 : (Jvm.Cond.code ({ cls := "RiverGaugeModel", name := "seeks", desc := "(I)V" } : Jvm.MethodName) prog_27_method_58_code (3 : Nat) (Option.none : Option Jvm.ClassFile.FieldType)) ∈ lw_all := lw_g (lw_at lw_m8 53 rfl) rfl
theorem q1824 : (Jvm.Cond.methodLink "RiverGaugeModel" (387 : Nat) ({ cls := "RiverGaugeModel", name := "tries", desc := "(I)V" } : Jvm.MethodName)) ∈ lw_all := lw_g (lw_at lw_m8 54 rfl) rfl
theorem q1825 : (Jvm.Cond.privateMethod ({ cls := "RiverGaugeModel", name := "tries", desc := "(I)V" } : Jvm.MethodName)) ∈ lw_tbl := lw_at lw_m8 55 rfl
theorem q1826 : (Jvm.Cond.instanceMethod ({ cls := "RiverGaugeModel", name := "tries", desc := "(I)V" } : Jvm.MethodName)) ∈ lw_all := lw_g (lw_at lw_m8 56 rfl) rfl
theorem q1827 : (Jvm.Cond.code ({ cls := "RiverGaugeModel", name := "tries", desc := "(I)V" } : Jvm.MethodName) prog_27_method_55_code (4 : Nat) (Option.none : Option Jvm.ClassFile.FieldType)) ∈ lw_all := lw_g (lw_at lw_m8 57 rfl) rfl
theorem q1828 : (Jvm.Cond.methodLink "RiverGaugeModel" (384 : Nat) ({ cls := "RiverGaugeModel", name := "shiftOf", desc := "(III)I" } : Jvm.MethodName)) ∈ lw_all := lw_g (lw_at lw_m8 58 rfl) rfl
theorem q1829 : (Jvm.Cond.privateMethod ({ cls := "RiverGaugeModel", name := "shiftOf", desc := "(III)I" } : Jvm.MethodName)) ∈ lw_tbl := lw_at lw_m8 59 rfl
theorem q1830 : (Jvm.Cond.instanceMethod ({ cls := "RiverGaugeModel", name := "shiftOf", desc := "(III)I" } : Jvm.MethodName)) ∈ lw_all := lw_g (lw_at lw_m8 60 rfl) rfl
theorem q1831 : (Jvm.Cond.code ({ cls := "RiverGaugeModel", name := "shiftOf", desc := "(III)I" } : Jvm.MethodName) prog_27_method_54_code (5 : Nat) (Option.some Jvm.ClassFile.FieldType.int)) ∈ lw_all := lw_g (lw_at lw_m8 61 rfl) rfl
theorem q1832 : (Jvm.Cond.methodLink "RiverGaugeModel" (380 : Nat) ({ cls := "RiverGaugeModel", name := "goes", desc := "(IIII)Z" } : Jvm.MethodName)) ∈ lw_all := lw_g (lw_at lw_m8 62 rfl) rfl
theorem q1833 : (Jvm.Cond.privateMethod ({ cls := "RiverGaugeModel", name := "goes", desc := "(IIII)Z" } : Jvm.MethodName)) ∈ lw_tbl := lw_at lw_m8 63 rfl
theorem q1834 : (Jvm.Cond.instanceMethod ({ cls := "RiverGaugeModel", name := "goes", desc := "(IIII)Z" } : Jvm.MethodName)) ∈ lw_all := lw_g (lw_at lw_m8 64 rfl) rfl
theorem q1835 : (Jvm.Cond.code ({ cls := "RiverGaugeModel", name := "goes", desc := "(IIII)Z" } : Jvm.MethodName) prog_27_method_53_code (9 : Nat) (Option.some Jvm.ClassFile.FieldType.boolean)) ∈ lw_all := lw_g (lw_at lw_m8 65 rfl) rfl
theorem q1836 : (Jvm.Cond.methodLink "RiverGaugeModel" (399 : Nat) ({ cls := "RiverGaugeModel", name := "bits", desc := "(I)I" } : Jvm.MethodName)) ∈ lw_all := lw_g (lw_at lw_m8 66 rfl) rfl
theorem q1837 : (Jvm.Cond.static ({ cls := "RiverGaugeModel", name := "bits", desc := "(I)I" } : Jvm.MethodName)) ∈ lw_all := lw_g (lw_at lw_m8 67 rfl) rfl
theorem q1838 : (Jvm.Cond.code ({ cls := "RiverGaugeModel", name := "bits", desc := "(I)I" } : Jvm.MethodName) prog_27_method_57_code (3 : Nat) (Option.some Jvm.ClassFile.FieldType.int)) ∈ lw_all := lw_g (lw_at lw_m8 68 rfl) rfl
theorem q1839 : (Jvm.Cond.methodLink "RiverGaugeModel" (402 : Nat) ({ cls := "RiverGaugeModel", name := "goesAll", desc := "(I)Z" } : Jvm.MethodName)) ∈ lw_all := lw_g (lw_at lw_m8 69 rfl) rfl
theorem q1840 : (Jvm.Cond.privateMethod ({ cls := "RiverGaugeModel", name := "goesAll", desc := "(I)Z" } : Jvm.MethodName)) ∈ lw_tbl := lw_at lw_m8 70 rfl
theorem q1841 : (Jvm.Cond.instanceMethod ({ cls := "RiverGaugeModel", name := "goesAll", desc := "(I)Z" } : Jvm.MethodName)) ∈ lw_all := lw_g (lw_at lw_m8 71 rfl) rfl
theorem q1842 : (Jvm.Cond.code ({ cls := "RiverGaugeModel", name := "goesAll", desc := "(I)Z" } : Jvm.MethodName) prog_27_method_56_code (4 : Nat) (Option.some Jvm.ClassFile.FieldType.boolean)) ∈ lw_all := lw_g (lw_at lw_m8 72 rfl) rfl
theorem q1844 : (Jvm.Cond.instanceMethod ({ cls := "RiverGaugeModel", name := "shift", desc := "(II)I" } : Jvm.MethodName)) ∈ lw_all := lw_g (lw_at lw_m8 74 rfl) rfl
theorem q1845 : (Jvm.Cond.selects "RiverGaugeModel" ({ cls := "RiverGaugeModel", name := "shift", desc := "(II)I" } : Jvm.MethodName) ({ cls := "RiverGaugeModel", name := "shift", desc := "(II)I" } : Jvm.MethodName)) ∈ lw_all := lw_g (lw_at lw_m8 75 rfl) rfl
theorem q1846 : (Jvm.Cond.code ({ cls := "RiverGaugeModel", name := "shift", desc := "(II)I" } : Jvm.MethodName) prog_27_method_60_code (6 : Nat) (Option.some Jvm.ClassFile.FieldType.int)) ∈ lw_all := lw_g (lw_at lw_m8 76 rfl) rfl
theorem q1848 : (Jvm.Cond.instanceMethod ({ cls := "RiverGaugeModel", name := "put", desc := "(I)I" } : Jvm.MethodName)) ∈ lw_all := lw_g (lw_at lw_m8 78 rfl) rfl
theorem q1849 : (Jvm.Cond.selects "RiverGaugeModel" ({ cls := "RiverGaugeModel", name := "put", desc := "(I)I" } : Jvm.MethodName) ({ cls := "RiverGaugeModel", name := "put", desc := "(I)I" } : Jvm.MethodName)) ∈ lw_all := lw_g (lw_at lw_m8 79 rfl) rfl
theorem q1850 : (Jvm.Cond.code ({ cls := "RiverGaugeModel", name := "put", desc := "(I)I" } : Jvm.MethodName) prog_27_method_61_code (2 : Nat) (Option.some Jvm.ClassFile.FieldType.int)) ∈ lw_all := lw_g (lw_at lw_m8 80 rfl) rfl
theorem q1852 : (Jvm.Cond.instanceMethod ({ cls := "RiverGaugeModel", name := "judge", desc := "(I)I" } : Jvm.MethodName)) ∈ lw_all := lw_g (lw_at lw_m8 82 rfl) rfl
theorem q1853 : (Jvm.Cond.selects "RiverGaugeModel" ({ cls := "RiverGaugeModel", name := "judge", desc := "(I)I" } : Jvm.MethodName) ({ cls := "RiverGaugeModel", name := "judge", desc := "(I)I" } : Jvm.MethodName)) ∈ lw_all := lw_g (lw_at lw_m8 83 rfl) rfl
theorem q1854 : (Jvm.Cond.code ({ cls := "RiverGaugeModel", name := "judge", desc := "(I)I" } : Jvm.MethodName) prog_27_method_62_code (6 : Nat) (Option.some Jvm.ClassFile.FieldType.int)) ∈ lw_all := lw_g (lw_at lw_m8 84 rfl) rfl
theorem q1856 : (Jvm.Cond.instanceMethod ({ cls := "RiverGaugeModel", name := "beside", desc := "(II)I" } : Jvm.MethodName)) ∈ lw_all := lw_g (lw_at lw_m8 86 rfl) rfl
theorem q1857 : (Jvm.Cond.selects "RiverGaugeModel" ({ cls := "RiverGaugeModel", name := "beside", desc := "(II)I" } : Jvm.MethodName) ({ cls := "RiverGaugeModel", name := "beside", desc := "(II)I" } : Jvm.MethodName)) ∈ lw_all := lw_g (lw_at lw_m8 87 rfl) rfl
theorem q1858 : (Jvm.Cond.code ({ cls := "RiverGaugeModel", name := "beside", desc := "(II)I" } : Jvm.MethodName) prog_27_method_63_code (4 : Nat) (Option.some Jvm.ClassFile.FieldType.int)) ∈ lw_all := lw_g (lw_at lw_m8 88 rfl) rfl
theorem q1860 : (Jvm.Cond.instanceMethod ({ cls := "RiverGaugeModel", name := "gap", desc := "(III)I" } : Jvm.MethodName)) ∈ lw_all := lw_g (lw_at lw_m8 90 rfl) rfl
theorem q1861 : (Jvm.Cond.selects "RiverGaugeModel" ({ cls := "RiverGaugeModel", name := "gap", desc := "(III)I" } : Jvm.MethodName) ({ cls := "RiverGaugeModel", name := "gap", desc := "(III)I" } : Jvm.MethodName)) ∈ lw_all := lw_g (lw_at lw_m8 91 rfl) rfl
theorem q1862 : (Jvm.Cond.code ({ cls := "RiverGaugeModel", name := "gap", desc := "(III)I" } : Jvm.MethodName) prog_27_method_65_code (14 : Nat) (Option.some Jvm.ClassFile.FieldType.int)) ∈ lw_all := lw_g (lw_at lw_m8 92 rfl) rfl
theorem q1863 : (Jvm.Cond.methodLink "RiverGaugeModel" (414 : Nat) ({ cls := "RiverGaugeModel", name := "between", desc := "(IIIII)I" } : Jvm.MethodName)) ∈ lw_all := lw_g (lw_at lw_m8 93 rfl) rfl
theorem q1864 : (Jvm.Cond.static ({ cls := "RiverGaugeModel", name := "between", desc := "(IIIII)I" } : Jvm.MethodName)) ∈ lw_all := lw_g (lw_at lw_m8 94 rfl) rfl
theorem q1865 : (Jvm.Cond.code ({ cls := "RiverGaugeModel", name := "between", desc := "(IIIII)I" } : Jvm.MethodName) prog_27_method_64_code (5 : Nat) (Option.some Jvm.ClassFile.FieldType.int)) ∈ lw_all := lw_g (lw_at lw_m8 95 rfl) rfl
theorem q1866 : (Jvm.Cond.constantLong "RiverGaugeModel" (418 : Nat) (99 : Int64)) ∈ lw_all := lw_g (lw_at lw_m8 96 rfl) rfl
theorem q1868 : (Jvm.Cond.instanceMethod ({ cls := "RiverGaugeModel", name := "peak", desc := "(IIII)I" } : Jvm.MethodName)) ∈ lw_all := lw_g (lw_at lw_m8 98 rfl) rfl
theorem q1869 : (Jvm.Cond.selects "RiverGaugeModel" ({ cls := "RiverGaugeModel", name := "peak", desc := "(IIII)I" } : Jvm.MethodName) ({ cls := "RiverGaugeModel", name := "peak", desc := "(IIII)I" } : Jvm.MethodName)) ∈ lw_all := lw_g (lw_at lw_m8 99 rfl) rfl
theorem q1870 : (Jvm.Cond.code ({ cls := "RiverGaugeModel", name := "peak", desc := "(IIII)I" } : Jvm.MethodName) prog_27_method_66_code (7 : Nat) (Option.some Jvm.ClassFile.FieldType.int)) ∈ lw_all := lw_g (lw_at lw_m8 100 rfl) rfl
theorem q1872 : (Jvm.Cond.instanceMethod ({ cls := "RiverGaugeModel", name := "often", desc := "(II)I" } : Jvm.MethodName)) ∈ lw_all := lw_g (lw_at lw_m8 102 rfl) rfl
theorem q1873 : (Jvm.Cond.selects "RiverGaugeModel" ({ cls := "RiverGaugeModel", name := "often", desc := "(II)I" } : Jvm.MethodName) ({ cls := "RiverGaugeModel", name := "often", desc := "(II)I" } : Jvm.MethodName)) ∈ lw_all := lw_g (lw_at lw_m8 103 rfl) rfl
theorem q1874 : (Jvm.Cond.code ({ cls := "RiverGaugeModel", name := "often", desc := "(II)I" } : Jvm.MethodName) prog_27_method_67_code (6 : Nat) (Option.some Jvm.ClassFile.FieldType.int)) ∈ lw_all := lw_g (lw_at lw_m8 104 rfl) rfl
theorem q1876 : (Jvm.Cond.instanceMethod ({ cls := "RiverGaugeModel", name := "agree", desc := "(IIIII)I" } : Jvm.MethodName)) ∈ lw_all := lw_g (lw_at lw_m8 106 rfl) rfl
theorem q1877 : (Jvm.Cond.selects "RiverGaugeModel" ({ cls := "RiverGaugeModel", name := "agree", desc := "(IIIII)I" } : Jvm.MethodName) ({ cls := "RiverGaugeModel", name := "agree", desc := "(IIIII)I" } : Jvm.MethodName)) ∈ lw_all := lw_g (lw_at lw_m8 107 rfl) rfl
theorem q1878 : (Jvm.Cond.code ({ cls := "RiverGaugeModel", name := "agree", desc := "(IIIII)I" } : Jvm.MethodName) prog_27_method_68_code (17 : Nat) (Option.some Jvm.ClassFile.FieldType.int)) ∈ lw_all := lw_g (lw_at lw_m8 108 rfl) rfl
theorem q1880 : (Jvm.Cond.instanceMethod ({ cls := "RiverGaugeModel", name := "next", desc := "(I)I" } : Jvm.MethodName)) ∈ lw_all := lw_g (lw_at lw_m8 110 rfl) rfl
theorem q1881 : (Jvm.Cond.selects "RiverGaugeModel" ({ cls := "RiverGaugeModel", name := "next", desc := "(I)I" } : Jvm.MethodName) ({ cls := "RiverGaugeModel", name := "next", desc := "(I)I" } : Jvm.MethodName)) ∈ lw_all := lw_g (lw_at lw_m8 111 rfl) rfl
theorem q1882 : (Jvm.Cond.code ({ cls := "RiverGaugeModel", name := "next", desc := "(I)I" } : Jvm.MethodName) prog_27_method_69_code (9 : Nat) (Option.some Jvm.ClassFile.FieldType.int)) ∈ lw_all := lw_g (lw_at lw_m8 112 rfl) rfl
theorem q1883 : (Jvm.Cond.constantLong "RiverGaugeModel" (420 : Nat) (-1 : Int64)) ∈ lw_all := lw_g (lw_at lw_m8 113 rfl) rfl
theorem q1884 : (Jvm.Cond.methodLink "RiverGaugeModel" (422 : Nat) ({ cls := "java/lang/Math", name := "floorDiv", desc := "(II)I" } : Jvm.MethodName)) ∈ lw_all := lw_g (lw_at lw_m8 114 rfl) rfl
theorem q1886 : (Jvm.Cond.instanceMethod ({ cls := "RiverGaugeModel", name := "publish", desc := "(II)I" } : Jvm.MethodName)) ∈ lw_all := lw_g (lw_at lw_m8 116 rfl) rfl
theorem q1887 : (Jvm.Cond.selects "RiverGaugeModel" ({ cls := "RiverGaugeModel", name := "publish", desc := "(II)I" } : Jvm.MethodName) ({ cls := "RiverGaugeModel", name := "publish", desc := "(II)I" } : Jvm.MethodName)) ∈ lw_all := lw_g (lw_at lw_m8 117 rfl) rfl
theorem q1888 : (Jvm.Cond.code ({ cls := "RiverGaugeModel", name := "publish", desc := "(II)I" } : Jvm.MethodName) prog_27_method_70_code (5 : Nat) (Option.some Jvm.ClassFile.FieldType.int)) ∈ lw_all := lw_g (lw_at lw_m8 118 rfl) rfl
theorem q1890 : (Jvm.Cond.instanceMethod ({ cls := "RiverGaugeModel", name := "published", desc := "(II)I" } : Jvm.MethodName)) ∈ lw_all := lw_g (lw_at lw_m8 120 rfl) rfl
theorem q1891 : (Jvm.Cond.selects "RiverGaugeModel" ({ cls := "RiverGaugeModel", name := "published", desc := "(II)I" } : Jvm.MethodName) ({ cls := "RiverGaugeModel", name := "published", desc := "(II)I" } : Jvm.MethodName)) ∈ lw_all := lw_g (lw_at lw_m8 121 rfl) rfl
theorem q1892 : (Jvm.Cond.code ({ cls := "RiverGaugeModel", name := "published", desc := "(II)I" } : Jvm.MethodName) prog_27_method_71_code (3 : Nat) (Option.some Jvm.ClassFile.FieldType.int)) ∈ lw_all := lw_g (lw_at lw_m8 122 rfl) rfl
theorem q1894 : (Jvm.Cond.instanceMethod ({ cls := "RiverGaugeModel", name := "mend", desc := "()I" } : Jvm.MethodName)) ∈ lw_all := lw_g (lw_at lw_m8 124 rfl) rfl
theorem q1895 : (Jvm.Cond.selects "RiverGaugeModel" ({ cls := "RiverGaugeModel", name := "mend", desc := "()I" } : Jvm.MethodName) ({ cls := "RiverGaugeModel", name := "mend", desc := "()I" } : Jvm.MethodName)) ∈ lw_all := lw_g (lw_at lw_m8 125 rfl) rfl
theorem q1896 : (Jvm.Cond.code ({ cls := "RiverGaugeModel", name := "mend", desc := "()I" } : Jvm.MethodName) prog_27_method_72_code (4 : Nat) (Option.some Jvm.ClassFile.FieldType.int)) ∈ lw_all := lw_g (lw_at lw_m8 126 rfl) rfl
theorem q1898 : (Jvm.Cond.instanceMethod ({ cls := "RiverGaugeModel", name := "limit", desc := "(I)I" } : Jvm.MethodName)) ∈ lw_all := lw_g (lw_at lw_m8 128 rfl) rfl
theorem q1899 : (Jvm.Cond.selects "RiverGaugeModel" ({ cls := "RiverGaugeModel", name := "limit", desc := "(I)I" } : Jvm.MethodName) ({ cls := "RiverGaugeModel", name := "limit", desc := "(I)I" } : Jvm.MethodName)) ∈ lw_all := lw_g (lw_at lw_m8 129 rfl) rfl
theorem q1900 : (Jvm.Cond.code ({ cls := "RiverGaugeModel", name := "limit", desc := "(I)I" } : Jvm.MethodName) prog_27_method_73_code (3 : Nat) (Option.some Jvm.ClassFile.FieldType.int)) ∈ lw_all := lw_g (lw_at lw_m8 130 rfl) rfl
theorem q1902 : (Jvm.Cond.instanceMethod ({ cls := "RiverGaugeModel", name := "count", desc := "(I)I" } : Jvm.MethodName)) ∈ lw_all := lw_g (lw_at lw_m8 132 rfl) rfl
theorem q1903 : (Jvm.Cond.selects "RiverGaugeModel" ({ cls := "RiverGaugeModel", name := "count", desc := "(I)I" } : Jvm.MethodName) ({ cls := "RiverGaugeModel", name := "count", desc := "(I)I" } : Jvm.MethodName)) ∈ lw_all := lw_g (lw_at lw_m8 133 rfl) rfl
theorem q1904 : (Jvm.Cond.code ({ cls := "RiverGaugeModel", name := "count", desc := "(I)I" } : Jvm.MethodName) prog_27_method_74_code (4 : Nat) (Option.some Jvm.ClassFile.FieldType.int)) ∈ lw_all := lw_g (lw_at lw_m8 134 rfl) rfl
theorem in_X1 : ∀ w ∈ wsX10, w ∈ lw_all := lw_in wsX10 [1427, 1429, 1431, 1433, 1435, 1437, 1439, 1441, 1443, 1445, 1447, 1449, 1451, 1453, 1455, 1457, 1459, 1461, 1463, 1465, 1467, 1469, 1471, 1473, 1475, 1477, 1479, 1481, 1483, 1485, 1487, 1489, 1491, 1493, 1495, 1497, 1499, 1501, 1503, 1505, 1507, 1509, 1511, 1513, 1515, 1517, 1519, 1521, 1523, 1525, 1527, 1529, 1531, 1533, 1535, 1537, 1539, 1541, 1543, 1545, 1547, 1549, 1551, 1553, 1555, 1557, 1559, 1561, 1563, 1565, 1567, 1569, 1571, 1573, 1575, 1577, 1579, 1581, 1583, 1585, 1587, 1589, 1591, 1593, 1595, 1597, 1599, 1601, 1603] (by decide +kernel) (by decide +kernel)

/-! java/lang/Throwable -/
set_option maxRecDepth 100000
def RJ1 : String := "java/lang/Throwable"
def TJ1 : u_T := fun k => match k with
  | 0 => ("java/lang/Throwable", "cause", "Ljava/lang/Throwable;", false)
  | 1 => ("java/lang/Throwable", "stackTrace", "[Ljava/lang/StackTraceElement;", false)
  | 2 => ("java/lang/Throwable", "suppressedExceptions", "Ljava/util/List;", false)
  | 3 => ("java/lang/Throwable", "detailMessage", "Ljava/lang/String;", false)
  | _ => ("java/lang/Throwable", "backtrace", "Ljava/lang/Object;", false)
def tyJ1 : Nat → FieldType := fun k => match k with
  | 0 => .object "java/lang/Throwable"
  | 1 => .array (.object "java/lang/StackTraceElement")
  | 2 => .object "java/util/List"
  | 3 => .object "java/lang/String"
  | _ => .object "java/lang/Object"
abbrev wsJ10 : List Cond := u_ws RJ1 TJ1 5
theorem nmJ1 : ∀ a, a < 5 → ∀ b, b < 5 → a ≠ b → (TJ1 a).2.1 ≠ (TJ1 b).2.1 := by decide +kernel
theorem tyJ1_ok : ∀ k, k < 5 → parseFieldDescriptor (TJ1 k).2.2.1 = some (tyJ1 k) := by decide +kernel
abbrev cJ1_init : ByteArray := prog_35_method_1_code
def yJ1_init : MethodName := ⟨RJ1, "<init>", "()V"⟩
theorem q94 : (Jvm.Cond.initialized "java/lang/Throwable") ∈ lw_all := lw_g (lw_at lw_m1 4 rfl) rfl
theorem q335 : (Jvm.Cond.declares ({ cls := "java/lang/Throwable", name := "<init>", desc := "()V" } : Jvm.MethodName)) ∈ lw_tbl := lw_at lw_m2 5 rfl
theorem q336 : (Jvm.Cond.declares ({ cls := "java/lang/Throwable", name := "<init>", desc := "(Ljava/lang/String;)V" } : Jvm.MethodName)) ∈ lw_tbl := lw_at lw_m2 6 rfl
theorem q340 : (Jvm.Cond.lays "java/lang/Throwable" "java/lang/Throwable" "cause" "Ljava/lang/Throwable;") ∈ lw_all := lw_g (lw_at lw_m2 10 rfl) rfl
theorem q342 : (Jvm.Cond.lays "java/lang/Throwable" "java/lang/Throwable" "stackTrace" "[Ljava/lang/StackTraceElement;") ∈ lw_all := lw_g (lw_at lw_m2 12 rfl) rfl
theorem q344 : (Jvm.Cond.lays "java/lang/Throwable" "java/lang/Throwable" "suppressedExceptions" "Ljava/util/List;") ∈ lw_all := lw_g (lw_at lw_m2 14 rfl) rfl
theorem q346 : (Jvm.Cond.lays "java/lang/Throwable" "java/lang/Throwable" "detailMessage" "Ljava/lang/String;") ∈ lw_all := lw_g (lw_at lw_m2 16 rfl) rfl
theorem q348 : (Jvm.Cond.lays "java/lang/Throwable" "java/lang/Throwable" "backtrace" "Ljava/lang/Object;") ∈ lw_all := lw_g (lw_at lw_m2 18 rfl) rfl
theorem q349 : (Jvm.Cond.fieldLink "java/lang/Throwable" (198 : Nat) "java/lang/Throwable" "backtrace" "Ljava/lang/Object;") ∈ lw_all := lw_g (lw_at lw_m2 19 rfl) rfl
theorem q350 : (Jvm.Cond.superclass "java/lang/Throwable" "java/lang/Object") ∈ lw_all := lw_g (lw_at lw_m2 20 rfl) rfl
theorem q351 : (Jvm.Cond.instanceMethod ({ cls := "java/lang/Throwable", name := "<init>", desc := "()V" } : Jvm.MethodName)) ∈ lw_all := lw_g (lw_at lw_m2 21 rfl) rfl
theorem q352 : (Jvm.Cond.code ({ cls := "java/lang/Throwable", name := "<init>", desc := "()V" } : Jvm.MethodName) prog_35_method_1_code (1 : Nat) (Option.none : Option Jvm.ClassFile.FieldType)) ∈ lw_all := lw_g (lw_at lw_m2 22 rfl) rfl
theorem q353 : (Jvm.Cond.methodLink "java/lang/Throwable" (1 : Nat) ({ cls := "java/lang/Object", name := "<init>", desc := "()V" } : Jvm.MethodName)) ∈ lw_all := lw_g (lw_at lw_m2 23 rfl) rfl
theorem q354 : (Jvm.Cond.fieldLink "java/lang/Throwable" (13 : Nat) "java/lang/Throwable" "UNASSIGNED_STACK" "[Ljava/lang/StackTraceElement;") ∈ lw_all := lw_g (lw_at lw_m2 24 rfl) rfl
theorem q355 : (Jvm.Cond.laysStatic "java/lang/Throwable" "UNASSIGNED_STACK" "[Ljava/lang/StackTraceElement;") ∈ lw_tbl := lw_at lw_m2 25 rfl
theorem q356 : (Jvm.Cond.fieldLink "java/lang/Throwable" (20 : Nat) "java/lang/Throwable" "SUPPRESSED_SENTINEL" "Ljava/util/List;") ∈ lw_all := lw_g (lw_at lw_m2 26 rfl) rfl
theorem q357 : (Jvm.Cond.laysStatic "java/lang/Throwable" "SUPPRESSED_SENTINEL" "Ljava/util/List;") ∈ lw_tbl := lw_at lw_m2 27 rfl
theorem q358 : (Jvm.Cond.methodLink "java/lang/Throwable" (27 : Nat) ({ cls := "java/lang/Throwable", name := "fillInStackTrace", desc := "()Ljava/lang/Throwable;" } : Jvm.MethodName)) ∈ lw_all := lw_g (lw_at lw_m2 28 rfl) rfl
theorem q359 : (Jvm.Cond.instanceMethod ({ cls := "java/lang/Throwable", name := "fillInStackTrace", desc := "()Ljava/lang/Throwable;" } : Jvm.MethodName)) ∈ lw_all := lw_g (lw_at lw_m2 29 rfl) rfl
theorem q360 : (Jvm.Cond.sameMethod "java/lang/Throwable" "java/lang/Throwable" "fillInStackTrace" "()Ljava/lang/Throwable;") ∈ lw_all := lw_g (lw_at lw_m2 30 rfl) rfl
theorem q362 : (Jvm.Cond.codeSync ({ cls := "java/lang/Throwable", name := "fillInStackTrace", desc := "()Ljava/lang/Throwable;" } : Jvm.MethodName) prog_35_method_18_code (1 : Nat) (Option.some (Jvm.ClassFile.FieldType.object "java/lang/Throwable"))) ∈ lw_all := lw_g (lw_at lw_m2 32 rfl) rfl
theorem q363 : (Jvm.Cond.methodLink "java/lang/Throwable" (202 : Nat) ({ cls := "java/lang/Throwable", name := "fillInStackTrace", desc := "(I)Ljava/lang/Throwable;" } : Jvm.MethodName)) ∈ lw_all := lw_g (lw_at lw_m2 33 rfl) rfl
theorem q364 : (Jvm.Cond.privateMethod ({ cls := "java/lang/Throwable", name := "fillInStackTrace", desc := "(I)Ljava/lang/Throwable;" } : Jvm.MethodName)) ∈ lw_tbl := lw_at lw_m2 34 rfl
theorem q365 : (Jvm.Cond.instanceMethod ({ cls := "java/lang/Throwable", name := "fillInStackTrace", desc := "(I)Ljava/lang/Throwable;" } : Jvm.MethodName)) ∈ lw_all := lw_g (lw_at lw_m2 35 rfl) rfl
theorem q366 : (Jvm.Cond.instantiable "java/lang/Throwable" (6 : Nat)) ∈ lw_all := lw_g (lw_at lw_m2 36 rfl) rfl
theorem q367 : (Jvm.Cond.native ({ cls := "java/lang/Throwable", name := "fillInStackTrace", desc := "(I)Ljava/lang/Throwable;" } : Jvm.MethodName)) ∈ lw_all := lw_g (lw_at lw_m2 37 rfl) rfl
theorem q382 : (Jvm.Cond.fieldLink "java/lang/Throwable" (198 : Nat) "java/lang/Throwable" "backtrace" "Ljava/lang/Object;") ∈ lw_all := lw_g (lw_at lw_m2 52 rfl) rfl
theorem q383 : (Jvm.Cond.fieldLink "java/lang/Throwable" (7 : Nat) "java/lang/Throwable" "cause" "Ljava/lang/Throwable;") ∈ lw_all := lw_g (lw_at lw_m2 53 rfl) rfl
theorem q384 : (Jvm.Cond.fieldLink "java/lang/Throwable" (17 : Nat) "java/lang/Throwable" "stackTrace" "[Ljava/lang/StackTraceElement;") ∈ lw_all := lw_g (lw_at lw_m2 54 rfl) rfl
theorem q385 : (Jvm.Cond.fieldLink "java/lang/Throwable" (24 : Nat) "java/lang/Throwable" "suppressedExceptions" "Ljava/util/List;") ∈ lw_all := lw_g (lw_at lw_m2 55 rfl) rfl
theorem q388 : (Jvm.Cond.soleField "java/lang/Throwable" "backtrace") ∈ lw_all := lw_g (lw_at lw_m2 58 rfl) rfl
theorem q389 : (Jvm.Cond.soleField "java/lang/Throwable" "detailMessage") ∈ lw_all := lw_g (lw_at lw_m2 59 rfl) rfl
theorem q390 : (Jvm.Cond.soleField "java/lang/Throwable" "cause") ∈ lw_all := lw_g (lw_at lw_m2 60 rfl) rfl
theorem q391 : (Jvm.Cond.soleField "java/lang/Throwable" "stackTrace") ∈ lw_all := lw_g (lw_at lw_m2 61 rfl) rfl
theorem q393 : (Jvm.Cond.soleField "java/lang/Throwable" "depth") ∈ lw_all := lw_g (lw_at lw_m2 63 rfl) rfl
theorem q394 : (Jvm.Cond.soleField "java/lang/Throwable" "suppressedExceptions") ∈ lw_all := lw_g (lw_at lw_m2 64 rfl) rfl
theorem q1906 : (Jvm.Cond.sameMethod "java/lang/Throwable" "java/lang/Throwable" "fillInStackTrace" "(I)Ljava/lang/Throwable;") ∈ lw_all := lw_g (lw_at lw_m8 136 rfl) rfl
theorem in_J1 : ∀ w ∈ wsJ10, w ∈ lw_all := lw_in wsJ10 [340, 342, 344, 346, 348] (by decide +kernel) (by decide +kernel)

/-! java/lang/Exception -/
set_option maxRecDepth 100000
def RJ2 : String := "java/lang/Exception"
abbrev cJ2_init : ByteArray := prog_29_method_1_code
def yJ2_init : MethodName := ⟨RJ2, "<init>", "()V"⟩
theorem q95 : (Jvm.Cond.initialized "java/lang/Exception") ∈ lw_all := lw_g (lw_at lw_m1 5 rfl) rfl
theorem q333 : (Jvm.Cond.declares ({ cls := "java/lang/Exception", name := "<init>", desc := "()V" } : Jvm.MethodName)) ∈ lw_tbl := lw_at lw_m2 3 rfl
theorem q334 : (Jvm.Cond.declares ({ cls := "java/lang/Exception", name := "<init>", desc := "(Ljava/lang/String;)V" } : Jvm.MethodName)) ∈ lw_tbl := lw_at lw_m2 4 rfl
theorem q378 : (Jvm.Cond.instanceMethod ({ cls := "java/lang/Exception", name := "<init>", desc := "()V" } : Jvm.MethodName)) ∈ lw_all := lw_g (lw_at lw_m2 48 rfl) rfl
theorem q379 : (Jvm.Cond.code ({ cls := "java/lang/Exception", name := "<init>", desc := "()V" } : Jvm.MethodName) prog_29_method_1_code (1 : Nat) (Option.none : Option Jvm.ClassFile.FieldType)) ∈ lw_all := lw_g (lw_at lw_m2 49 rfl) rfl
theorem q380 : (Jvm.Cond.methodLink "java/lang/Exception" (1 : Nat) ({ cls := "java/lang/Throwable", name := "<init>", desc := "()V" } : Jvm.MethodName)) ∈ lw_all := lw_g (lw_at lw_m2 50 rfl) rfl

/-! java/lang/RuntimeException -/
set_option maxRecDepth 100000
def RJ3 : String := "java/lang/RuntimeException"
abbrev cJ3_init : ByteArray := prog_31_method_1_code
def yJ3_init : MethodName := ⟨RJ3, "<init>", "()V"⟩
theorem q96 : (Jvm.Cond.initialized "java/lang/RuntimeException") ∈ lw_all := lw_g (lw_at lw_m1 6 rfl) rfl
theorem q331 : (Jvm.Cond.declares ({ cls := "java/lang/RuntimeException", name := "<init>", desc := "()V" } : Jvm.MethodName)) ∈ lw_tbl := lw_at lw_m2 1 rfl
theorem q332 : (Jvm.Cond.declares ({ cls := "java/lang/RuntimeException", name := "<init>", desc := "(Ljava/lang/String;)V" } : Jvm.MethodName)) ∈ lw_tbl := lw_at lw_m2 2 rfl
theorem q375 : (Jvm.Cond.instanceMethod ({ cls := "java/lang/RuntimeException", name := "<init>", desc := "()V" } : Jvm.MethodName)) ∈ lw_all := lw_g (lw_at lw_m2 45 rfl) rfl
theorem q376 : (Jvm.Cond.code ({ cls := "java/lang/RuntimeException", name := "<init>", desc := "()V" } : Jvm.MethodName) prog_31_method_1_code (1 : Nat) (Option.none : Option Jvm.ClassFile.FieldType)) ∈ lw_all := lw_g (lw_at lw_m2 46 rfl) rfl
theorem q377 : (Jvm.Cond.methodLink "java/lang/RuntimeException" (1 : Nat) ({ cls := "java/lang/Exception", name := "<init>", desc := "()V" } : Jvm.MethodName)) ∈ lw_all := lw_g (lw_at lw_m2 47 rfl) rfl

/-! RiverGauge$Refusal -/
set_option maxRecDepth 100000
def RX2 : String := "RiverGauge$Refusal"
abbrev cX2_init : ByteArray := prog_18_method_1_code
def yX2_init : MethodName := ⟨RX2, "<init>", "()V"⟩
theorem q97 : (Jvm.Cond.initialized "RiverGauge$Refusal") ∈ lw_all := lw_g (lw_at lw_m1 7 rfl) rfl
theorem q330 : (Jvm.Cond.declares ({ cls := "RiverGauge$Refusal", name := "<init>", desc := "()V" } : Jvm.MethodName)) ∈ lw_tbl := lw_at lw_m2 0 rfl
theorem q372 : (Jvm.Cond.instanceMethod ({ cls := "RiverGauge$Refusal", name := "<init>", desc := "()V" } : Jvm.MethodName)) ∈ lw_all := lw_g (lw_at lw_m2 42 rfl) rfl
theorem q373 : (Jvm.Cond.code ({ cls := "RiverGauge$Refusal", name := "<init>", desc := "()V" } : Jvm.MethodName) prog_18_method_1_code (1 : Nat) (Option.none : Option Jvm.ClassFile.FieldType)) ∈ lw_all := lw_g (lw_at lw_m2 43 rfl) rfl
theorem q374 : (Jvm.Cond.methodLink "RiverGauge$Refusal" (1 : Nat) ({ cls := "java/lang/RuntimeException", name := "<init>", desc := "()V" } : Jvm.MethodName)) ∈ lw_all := lw_g (lw_at lw_m2 44 rfl) rfl
theorem q1171 : (Jvm.Cond.declares ({ cls := "RiverGauge$Refusal", name := "number", desc := "()I" } : Jvm.MethodName)) ∈ lw_tbl := lw_at lw_m5 121 rfl
theorem q1172 : (Jvm.Cond.sameMethod "RiverGauge$Refusal" "RiverGauge$Refusal" "number" "()I") ∈ lw_all := lw_g (lw_at lw_m5 122 rfl) rfl

/-! RiverGauge$Refused -/
set_option maxRecDepth 100000
def RX3 : String := "RiverGauge$Refused"
def TX3 : u_T := fun k => match k with
  | 0 => ("java/lang/Throwable", "cause", "Ljava/lang/Throwable;", false)
  | 1 => ("java/lang/Throwable", "stackTrace", "[Ljava/lang/StackTraceElement;", false)
  | 2 => ("java/lang/Throwable", "suppressedExceptions", "Ljava/util/List;", false)
  | 3 => ("java/lang/Throwable", "detailMessage", "Ljava/lang/String;", false)
  | 4 => ("java/lang/Throwable", "backtrace", "Ljava/lang/Object;", false)
  | 5 => ("java/lang/Throwable", "depth", "I", false)
  | _ => ("RiverGauge$Refused", "number", "I", true)
def tyX3 : Nat → FieldType := fun k => match k with
  | 0 => .object "java/lang/Throwable"
  | 1 => .array (.object "java/lang/StackTraceElement")
  | 2 => .object "java/util/List"
  | 3 => .object "java/lang/String"
  | 4 => .object "java/lang/Object"
  | 5 => .int
  | _ => .int
abbrev wsX30 : List Cond := u_ws RX3 TX3 7
theorem nmX3 : ∀ a, a < 7 → ∀ b, b < 7 → a ≠ b → (TX3 a).2.1 ≠ (TX3 b).2.1 := by decide +kernel
theorem tyX3_ok : ∀ k, k < 7 → parseFieldDescriptor (TX3 k).2.2.1 = some (tyX3 k) := by decide +kernel
abbrev cX3_init : ByteArray := prog_19_method_1_code
def yX3_init : MethodName := ⟨RX3, "<init>", "(I)V"⟩
abbrev cX3_number : ByteArray := prog_19_method_2_code
def yX3_number : MethodName := ⟨RX3, "number", "()I"⟩
theorem q98 : (Jvm.Cond.initialized "RiverGauge$Refused") ∈ lw_all := lw_g (lw_at lw_m1 8 rfl) rfl
theorem q328 : (Jvm.Cond.instantiable "RiverGauge$Refused" (7 : Nat)) ∈ lw_all := lw_g (lw_at lw_m1 238 rfl) rfl
theorem q329 : (Jvm.Cond.castable "RiverGauge$Refused" "RiverGauge$Refused") ∈ lw_tbl := lw_at lw_m1 239 rfl
theorem q337 : (Jvm.Cond.selects "RiverGauge$Refused" ({ cls := "java/lang/Throwable", name := "fillInStackTrace", desc := "(I)Ljava/lang/Throwable;" } : Jvm.MethodName) ({ cls := "java/lang/Throwable", name := "fillInStackTrace", desc := "(I)Ljava/lang/Throwable;" } : Jvm.MethodName)) ∈ lw_all := lw_g (lw_at lw_m2 7 rfl) rfl
theorem q338 : (Jvm.Cond.selects "RiverGauge$Refused" ({ cls := "java/lang/Throwable", name := "fillInStackTrace", desc := "()Ljava/lang/Throwable;" } : Jvm.MethodName) ({ cls := "java/lang/Throwable", name := "fillInStackTrace", desc := "()Ljava/lang/Throwable;" } : Jvm.MethodName)) ∈ lw_all := lw_g (lw_at lw_m2 8 rfl) rfl
theorem q339 : (Jvm.Cond.lays "RiverGauge$Refused" "java/lang/Throwable" "cause" "Ljava/lang/Throwable;") ∈ lw_all := lw_g (lw_at lw_m2 9 rfl) rfl
theorem q341 : (Jvm.Cond.lays "RiverGauge$Refused" "java/lang/Throwable" "stackTrace" "[Ljava/lang/StackTraceElement;") ∈ lw_all := lw_g (lw_at lw_m2 11 rfl) rfl
theorem q343 : (Jvm.Cond.lays "RiverGauge$Refused" "java/lang/Throwable" "suppressedExceptions" "Ljava/util/List;") ∈ lw_all := lw_g (lw_at lw_m2 13 rfl) rfl
theorem q345 : (Jvm.Cond.lays "RiverGauge$Refused" "java/lang/Throwable" "detailMessage" "Ljava/lang/String;") ∈ lw_all := lw_g (lw_at lw_m2 15 rfl) rfl
theorem q347 : (Jvm.Cond.lays "RiverGauge$Refused" "java/lang/Throwable" "backtrace" "Ljava/lang/Object;") ∈ lw_all := lw_g (lw_at lw_m2 17 rfl) rfl
theorem q369 : (Jvm.Cond.instanceMethod ({ cls := "RiverGauge$Refused", name := "<init>", desc := "(I)V" } : Jvm.MethodName)) ∈ lw_all := lw_g (lw_at lw_m2 39 rfl) rfl
theorem q370 : (Jvm.Cond.code ({ cls := "RiverGauge$Refused", name := "<init>", desc := "(I)V" } : Jvm.MethodName) prog_19_method_1_code (2 : Nat) (Option.none : Option Jvm.ClassFile.FieldType)) ∈ lw_all := lw_g (lw_at lw_m2 40 rfl) rfl
theorem q371 : (Jvm.Cond.methodLinkNest "RiverGauge$Refused" (1 : Nat) ({ cls := "RiverGauge$Refusal", name := "<init>", desc := "()V" } : Jvm.MethodName) "RiverGauge") ∈ lw_tbl := lw_at lw_m2 41 rfl
theorem q381 : (Jvm.Cond.fieldLink "RiverGauge$Refused" (7 : Nat) "RiverGauge$Refused" "number" "I") ∈ lw_all := lw_g (lw_at lw_m2 51 rfl) rfl
theorem q386 : (Jvm.Cond.laysFinal "RiverGauge$Refused" "RiverGauge$Refused" "number" "I") ∈ lw_all := lw_g (lw_at lw_m2 56 rfl) rfl
theorem q387 : (Jvm.Cond.soleField "RiverGauge$Refused" "number") ∈ lw_all := lw_g (lw_at lw_m2 57 rfl) rfl
theorem q392 : (Jvm.Cond.lays "RiverGauge$Refused" "java/lang/Throwable" "depth" "I") ∈ lw_all := lw_g (lw_at lw_m2 62 rfl) rfl
theorem q395 : (Jvm.Cond.superclass "RiverGauge$Refused" "RiverGauge$Refusal") ∈ lw_all := lw_g (lw_at lw_m2 65 rfl) rfl
theorem q1174 : (Jvm.Cond.instanceMethod ({ cls := "RiverGauge$Refused", name := "number", desc := "()I" } : Jvm.MethodName)) ∈ lw_all := lw_g (lw_at lw_m5 124 rfl) rfl
theorem q1175 : (Jvm.Cond.code ({ cls := "RiverGauge$Refused", name := "number", desc := "()I" } : Jvm.MethodName) prog_19_method_2_code (1 : Nat) (Option.some Jvm.ClassFile.FieldType.int)) ∈ lw_all := lw_g (lw_at lw_m5 125 rfl) rfl
theorem q1176 : (Jvm.Cond.selects "RiverGauge$Refused" ({ cls := "RiverGauge$Refusal", name := "number", desc := "()I" } : Jvm.MethodName) ({ cls := "RiverGauge$Refused", name := "number", desc := "()I" } : Jvm.MethodName)) ∈ lw_all := lw_g (lw_at lw_m5 126 rfl) rfl
theorem q1909 : (Jvm.Cond.castable "RiverGauge$Refused" "RiverGauge$Refusal") ∈ lw_tbl := lw_at lw_m8 139 rfl
theorem in_X3 : ∀ w ∈ wsX30, w ∈ lw_all := lw_in wsX30 [339, 341, 343, 345, 347, 392, 386] (by decide +kernel) (by decide +kernel)

/-! RiverGauge$Told -/
set_option maxRecDepth 100000
def RX4 : String := "RiverGauge$Told"
abbrev cX4_init : ByteArray := prog_24_method_1_code
def yX4_init : MethodName := ⟨RX4, "<init>", "(III)V"⟩
abbrev cX4_isKnown : ByteArray := prog_24_method_2_code
def yX4_isKnown : MethodName := ⟨RX4, "isKnown", "(I)Z"⟩
theorem q99 : (Jvm.Cond.initialized "RiverGauge$Told") ∈ lw_all := lw_g (lw_at lw_m1 9 rfl) rfl
theorem q407 : (Jvm.Cond.instanceMethod ({ cls := "RiverGauge$Told", name := "<init>", desc := "(III)V" } : Jvm.MethodName)) ∈ lw_all := lw_g (lw_at lw_m2 77 rfl) rfl
theorem q408 : (Jvm.Cond.code ({ cls := "RiverGauge$Told", name := "<init>", desc := "(III)V" } : Jvm.MethodName) prog_24_method_1_code (4 : Nat) (Option.none : Option Jvm.ClassFile.FieldType)) ∈ lw_all := lw_g (lw_at lw_m2 78 rfl) rfl
theorem q409 : (Jvm.Cond.methodLink "RiverGauge$Told" (1 : Nat) ({ cls := "java/lang/Object", name := "<init>", desc := "()V" } : Jvm.MethodName)) ∈ lw_all := lw_g (lw_at lw_m2 79 rfl) rfl
theorem q412 : (Jvm.Cond.fieldLink "RiverGauge$Told" (7 : Nat) "RiverGauge$Told" "post" "I") ∈ lw_all := lw_g (lw_at lw_m2 82 rfl) rfl
theorem q421 : (Jvm.Cond.fieldLink "RiverGauge$Told" (13 : Nat) "RiverGauge$Told" "time" "I") ∈ lw_all := lw_g (lw_at lw_m2 91 rfl) rfl
theorem q431 : (Jvm.Cond.fieldLink "RiverGauge$Told" (16 : Nat) "RiverGauge$Told" "known" "I") ∈ lw_all := lw_g (lw_at lw_m2 101 rfl) rfl
theorem q435 : (Jvm.Cond.soleField "RiverGauge$Told" "post") ∈ lw_all := lw_g (lw_at lw_m2 105 rfl) rfl
theorem q437 : (Jvm.Cond.soleField "RiverGauge$Told" "time") ∈ lw_all := lw_g (lw_at lw_m2 107 rfl) rfl
theorem q439 : (Jvm.Cond.soleField "RiverGauge$Told" "known") ∈ lw_all := lw_g (lw_at lw_m2 109 rfl) rfl
theorem q451 : (Jvm.Cond.declares ({ cls := "RiverGauge$Told", name := "isKnown", desc := "(I)Z" } : Jvm.MethodName)) ∈ lw_tbl := lw_at lw_m2 121 rfl
theorem q453 : (Jvm.Cond.instanceMethod ({ cls := "RiverGauge$Told", name := "isKnown", desc := "(I)Z" } : Jvm.MethodName)) ∈ lw_all := lw_g (lw_at lw_m2 123 rfl) rfl
theorem q454 : (Jvm.Cond.code ({ cls := "RiverGauge$Told", name := "isKnown", desc := "(I)Z" } : Jvm.MethodName) prog_24_method_2_code (2 : Nat) (Option.some Jvm.ClassFile.FieldType.boolean)) ∈ lw_all := lw_g (lw_at lw_m2 124 rfl) rfl

/-! RiverGauge$Zero -/
set_option maxRecDepth 100000
def RX5 : String := "RiverGauge$Zero"
def TX5 : u_T := fun k => match k with
  | 0 => ("RiverGauge$Told", "post", "I", true)
  | 1 => ("RiverGauge$Told", "time", "I", true)
  | 2 => ("RiverGauge$Told", "known", "I", true)
  | _ => ("RiverGauge$Zero", "zero", "I", true)
def tyX5 : Nat → FieldType := fun k => match k with
  | 0 => .int
  | 1 => .int
  | 2 => .int
  | _ => .int
abbrev wsX50 : List Cond := u_ws RX5 TX5 4
theorem nmX5 : ∀ a, a < 4 → ∀ b, b < 4 → a ≠ b → (TX5 a).2.1 ≠ (TX5 b).2.1 := by decide +kernel
theorem tyX5_ok : ∀ k, k < 4 → parseFieldDescriptor (TX5 k).2.2.1 = some (tyX5 k) := by decide +kernel
abbrev cX5_init : ByteArray := prog_25_method_1_code
def yX5_init : MethodName := ⟨RX5, "<init>", "(IIII)V"⟩
theorem q100 : (Jvm.Cond.initialized "RiverGauge$Zero") ∈ lw_all := lw_g (lw_at lw_m1 10 rfl) rfl
theorem q402 : (Jvm.Cond.instantiable "RiverGauge$Zero" (4 : Nat)) ∈ lw_all := lw_g (lw_at lw_m2 72 rfl) rfl
theorem q404 : (Jvm.Cond.instanceMethod ({ cls := "RiverGauge$Zero", name := "<init>", desc := "(IIII)V" } : Jvm.MethodName)) ∈ lw_all := lw_g (lw_at lw_m2 74 rfl) rfl
theorem q405 : (Jvm.Cond.code ({ cls := "RiverGauge$Zero", name := "<init>", desc := "(IIII)V" } : Jvm.MethodName) prog_25_method_1_code (5 : Nat) (Option.none : Option Jvm.ClassFile.FieldType)) ∈ lw_all := lw_g (lw_at lw_m2 75 rfl) rfl
theorem q406 : (Jvm.Cond.methodLink "RiverGauge$Zero" (1 : Nat) ({ cls := "RiverGauge$Told", name := "<init>", desc := "(III)V" } : Jvm.MethodName)) ∈ lw_all := lw_g (lw_at lw_m2 76 rfl) rfl
theorem q410 : (Jvm.Cond.fieldLink "RiverGauge$Zero" (7 : Nat) "RiverGauge$Zero" "zero" "I") ∈ lw_all := lw_g (lw_at lw_m2 80 rfl) rfl
theorem q414 : (Jvm.Cond.sameField "RiverGauge$Zero" "RiverGauge$Told" "post" "I") ∈ lw_all := lw_g (lw_at lw_m2 84 rfl) rfl
theorem q425 : (Jvm.Cond.sameField "RiverGauge$Zero" "RiverGauge$Told" "time" "I") ∈ lw_all := lw_g (lw_at lw_m2 95 rfl) rfl
theorem q432 : (Jvm.Cond.laysFinal "RiverGauge$Zero" "RiverGauge$Zero" "zero" "I") ∈ lw_all := lw_g (lw_at lw_m2 102 rfl) rfl
theorem q433 : (Jvm.Cond.soleField "RiverGauge$Zero" "zero") ∈ lw_all := lw_g (lw_at lw_m2 103 rfl) rfl
theorem q434 : (Jvm.Cond.laysFinal "RiverGauge$Zero" "RiverGauge$Told" "post" "I") ∈ lw_all := lw_g (lw_at lw_m2 104 rfl) rfl
theorem q436 : (Jvm.Cond.laysFinal "RiverGauge$Zero" "RiverGauge$Told" "time" "I") ∈ lw_all := lw_g (lw_at lw_m2 106 rfl) rfl
theorem q438 : (Jvm.Cond.laysFinal "RiverGauge$Zero" "RiverGauge$Told" "known" "I") ∈ lw_all := lw_g (lw_at lw_m2 108 rfl) rfl
theorem q440 : (Jvm.Cond.superclass "RiverGauge$Zero" "RiverGauge$Told") ∈ lw_all := lw_g (lw_at lw_m2 110 rfl) rfl
theorem q450 : (Jvm.Cond.sameMethod "RiverGauge$Zero" "RiverGauge$Told" "isKnown" "(I)Z") ∈ lw_all := lw_g (lw_at lw_m2 120 rfl) rfl
theorem q452 : (Jvm.Cond.selects "RiverGauge$Zero" ({ cls := "RiverGauge$Zero", name := "isKnown", desc := "(I)Z" } : Jvm.MethodName) ({ cls := "RiverGauge$Told", name := "isKnown", desc := "(I)Z" } : Jvm.MethodName)) ∈ lw_all := lw_g (lw_at lw_m2 122 rfl) rfl
theorem in_X5 : ∀ w ∈ wsX50, w ∈ lw_all := lw_in wsX50 [434, 436, 438, 432] (by decide +kernel) (by decide +kernel)

/-! RiverGauge$Strikable -/
set_option maxRecDepth 100000
def RX6 : String := "RiverGauge$Strikable"
abbrev cX6_init : ByteArray := prog_21_method_1_code
def yX6_init : MethodName := ⟨RX6, "<init>", "(III)V"⟩
abbrev cX6_strike : ByteArray := prog_21_method_4_code
def yX6_strike : MethodName := ⟨RX6, "strike", "(I)V"⟩
abbrev cX6_isStruckBy : ByteArray := prog_21_method_3_code
def yX6_isStruckBy : MethodName := ⟨RX6, "isStruckBy", "(I)Z"⟩
abbrev cX6_isTold : ByteArray := prog_21_method_2_code
def yX6_isTold : MethodName := ⟨RX6, "isTold", "(I)Z"⟩
theorem q101 : (Jvm.Cond.initialized "RiverGauge$Strikable") ∈ lw_all := lw_g (lw_at lw_m1 11 rfl) rfl
theorem q464 : (Jvm.Cond.instanceMethod ({ cls := "RiverGauge$Strikable", name := "<init>", desc := "(III)V" } : Jvm.MethodName)) ∈ lw_all := lw_g (lw_at lw_m2 134 rfl) rfl
theorem q465 : (Jvm.Cond.code ({ cls := "RiverGauge$Strikable", name := "<init>", desc := "(III)V" } : Jvm.MethodName) prog_21_method_1_code (4 : Nat) (Option.none : Option Jvm.ClassFile.FieldType)) ∈ lw_all := lw_g (lw_at lw_m2 135 rfl) rfl
theorem q466 : (Jvm.Cond.methodLink "RiverGauge$Strikable" (3 : Nat) ({ cls := "RiverGauge$Told", name := "<init>", desc := "(III)V" } : Jvm.MethodName)) ∈ lw_all := lw_g (lw_at lw_m2 136 rfl) rfl
theorem q467 : (Jvm.Cond.constant "RiverGauge$Strikable" (9 : Nat) (1000000 : Int32)) ∈ lw_all := lw_g (lw_at lw_m2 137 rfl) rfl
theorem q472 : (Jvm.Cond.fieldLink "RiverGauge$Strikable" (10 : Nat) "RiverGauge$Strikable" "struck" "I") ∈ lw_all := lw_g (lw_at lw_m2 142 rfl) rfl
theorem q478 : (Jvm.Cond.soleField "RiverGauge$Strikable" "struck") ∈ lw_all := lw_g (lw_at lw_m2 148 rfl) rfl
theorem q485 : (Jvm.Cond.declares ({ cls := "RiverGauge$Strikable", name := "strike", desc := "(I)V" } : Jvm.MethodName)) ∈ lw_tbl := lw_at lw_m2 155 rfl
theorem q487 : (Jvm.Cond.instanceMethod ({ cls := "RiverGauge$Strikable", name := "strike", desc := "(I)V" } : Jvm.MethodName)) ∈ lw_all := lw_g (lw_at lw_m2 157 rfl) rfl
theorem q488 : (Jvm.Cond.code ({ cls := "RiverGauge$Strikable", name := "strike", desc := "(I)V" } : Jvm.MethodName) prog_21_method_4_code (2 : Nat) (Option.none : Option Jvm.ClassFile.FieldType)) ∈ lw_all := lw_g (lw_at lw_m2 158 rfl) rfl
theorem q489 : (Jvm.Cond.methodLinkNest "RiverGauge$Strikable" (20 : Nat) ({ cls := "RiverGauge", name := "must", desc := "(ZI)V" } : Jvm.MethodName) "RiverGauge") ∈ lw_tbl := lw_at lw_m2 159 rfl
theorem q506 : (Jvm.Cond.declares ({ cls := "RiverGauge$Strikable", name := "isStruckBy", desc := "(I)Z" } : Jvm.MethodName)) ∈ lw_tbl := lw_at lw_m2 176 rfl
theorem q508 : (Jvm.Cond.instanceMethod ({ cls := "RiverGauge$Strikable", name := "isStruckBy", desc := "(I)Z" } : Jvm.MethodName)) ∈ lw_all := lw_g (lw_at lw_m2 178 rfl) rfl
theorem q509 : (Jvm.Cond.code ({ cls := "RiverGauge$Strikable", name := "isStruckBy", desc := "(I)Z" } : Jvm.MethodName) prog_21_method_3_code (2 : Nat) (Option.some Jvm.ClassFile.FieldType.boolean)) ∈ lw_all := lw_g (lw_at lw_m2 179 rfl) rfl
theorem q520 : (Jvm.Cond.declares ({ cls := "RiverGauge$Strikable", name := "isTold", desc := "(I)Z" } : Jvm.MethodName)) ∈ lw_tbl := lw_at lw_m2 190 rfl
theorem q522 : (Jvm.Cond.instanceMethod ({ cls := "RiverGauge$Strikable", name := "isTold", desc := "(I)Z" } : Jvm.MethodName)) ∈ lw_all := lw_g (lw_at lw_m2 192 rfl) rfl
theorem q523 : (Jvm.Cond.code ({ cls := "RiverGauge$Strikable", name := "isTold", desc := "(I)Z" } : Jvm.MethodName) prog_21_method_2_code (2 : Nat) (Option.some Jvm.ClassFile.FieldType.boolean)) ∈ lw_all := lw_g (lw_at lw_m2 193 rfl) rfl
theorem q524 : (Jvm.Cond.methodLink "RiverGauge$Strikable" (16 : Nat) ({ cls := "RiverGauge$Strikable", name := "isKnown", desc := "(I)Z" } : Jvm.MethodName)) ∈ lw_all := lw_g (lw_at lw_m2 194 rfl) rfl
theorem q525 : (Jvm.Cond.sameMethod "RiverGauge$Strikable" "RiverGauge$Told" "isKnown" "(I)Z") ∈ lw_all := lw_g (lw_at lw_m2 195 rfl) rfl

/-! RiverGauge$Height -/
set_option maxRecDepth 100000
def RX7 : String := "RiverGauge$Height"
def TX7 : u_T := fun k => match k with
  | 0 => ("RiverGauge$Strikable", "struck", "I", false)
  | 1 => ("RiverGauge$Told", "post", "I", true)
  | 2 => ("RiverGauge$Told", "time", "I", true)
  | 3 => ("RiverGauge$Told", "known", "I", true)
  | 4 => ("RiverGauge$Height", "kind", "I", true)
  | _ => ("RiverGauge$Height", "read", "I", true)
def tyX7 : Nat → FieldType := fun k => match k with
  | 0 => .int
  | 1 => .int
  | 2 => .int
  | 3 => .int
  | 4 => .int
  | _ => .int
abbrev wsX70 : List Cond := u_ws RX7 TX7 6
theorem nmX7 : ∀ a, a < 6 → ∀ b, b < 6 → a ≠ b → (TX7 a).2.1 ≠ (TX7 b).2.1 := by decide +kernel
theorem tyX7_ok : ∀ k, k < 6 → parseFieldDescriptor (TX7 k).2.2.1 = some (tyX7 k) := by decide +kernel
abbrev cX7_init : ByteArray := prog_9_method_1_code
def yX7_init : MethodName := ⟨RX7, "<init>", "(IIIII)V"⟩
theorem q102 : (Jvm.Cond.initialized "RiverGauge$Height") ∈ lw_all := lw_g (lw_at lw_m1 12 rfl) rfl
theorem q416 : (Jvm.Cond.sameField "RiverGauge$Height" "RiverGauge$Told" "post" "I") ∈ lw_all := lw_g (lw_at lw_m2 86 rfl) rfl
theorem q427 : (Jvm.Cond.sameField "RiverGauge$Height" "RiverGauge$Told" "time" "I") ∈ lw_all := lw_g (lw_at lw_m2 97 rfl) rfl
theorem q459 : (Jvm.Cond.instantiable "RiverGauge$Height" (6 : Nat)) ∈ lw_all := lw_g (lw_at lw_m2 129 rfl) rfl
theorem q461 : (Jvm.Cond.instanceMethod ({ cls := "RiverGauge$Height", name := "<init>", desc := "(IIIII)V" } : Jvm.MethodName)) ∈ lw_all := lw_g (lw_at lw_m2 131 rfl) rfl
theorem q462 : (Jvm.Cond.code ({ cls := "RiverGauge$Height", name := "<init>", desc := "(IIIII)V" } : Jvm.MethodName) prog_9_method_1_code (6 : Nat) (Option.none : Option Jvm.ClassFile.FieldType)) ∈ lw_all := lw_g (lw_at lw_m2 132 rfl) rfl
theorem q463 : (Jvm.Cond.methodLink "RiverGauge$Height" (1 : Nat) ({ cls := "RiverGauge$Strikable", name := "<init>", desc := "(III)V" } : Jvm.MethodName)) ∈ lw_all := lw_g (lw_at lw_m2 133 rfl) rfl
theorem q468 : (Jvm.Cond.fieldLink "RiverGauge$Height" (7 : Nat) "RiverGauge$Height" "kind" "I") ∈ lw_all := lw_g (lw_at lw_m2 138 rfl) rfl
theorem q470 : (Jvm.Cond.fieldLink "RiverGauge$Height" (13 : Nat) "RiverGauge$Height" "read" "I") ∈ lw_all := lw_g (lw_at lw_m2 140 rfl) rfl
theorem q473 : (Jvm.Cond.laysFinal "RiverGauge$Height" "RiverGauge$Height" "kind" "I") ∈ lw_all := lw_g (lw_at lw_m2 143 rfl) rfl
theorem q474 : (Jvm.Cond.soleField "RiverGauge$Height" "kind") ∈ lw_all := lw_g (lw_at lw_m2 144 rfl) rfl
theorem q475 : (Jvm.Cond.laysFinal "RiverGauge$Height" "RiverGauge$Height" "read" "I") ∈ lw_all := lw_g (lw_at lw_m2 145 rfl) rfl
theorem q476 : (Jvm.Cond.soleField "RiverGauge$Height" "read") ∈ lw_all := lw_g (lw_at lw_m2 146 rfl) rfl
theorem q477 : (Jvm.Cond.lays "RiverGauge$Height" "RiverGauge$Strikable" "struck" "I") ∈ lw_all := lw_g (lw_at lw_m2 147 rfl) rfl
theorem q479 : (Jvm.Cond.laysFinal "RiverGauge$Height" "RiverGauge$Told" "post" "I") ∈ lw_all := lw_g (lw_at lw_m2 149 rfl) rfl
theorem q480 : (Jvm.Cond.laysFinal "RiverGauge$Height" "RiverGauge$Told" "time" "I") ∈ lw_all := lw_g (lw_at lw_m2 150 rfl) rfl
theorem q481 : (Jvm.Cond.laysFinal "RiverGauge$Height" "RiverGauge$Told" "known" "I") ∈ lw_all := lw_g (lw_at lw_m2 151 rfl) rfl
theorem q482 : (Jvm.Cond.superclass "RiverGauge$Height" "RiverGauge$Strikable") ∈ lw_all := lw_g (lw_at lw_m2 152 rfl) rfl
theorem q484 : (Jvm.Cond.sameMethod "RiverGauge$Height" "RiverGauge$Strikable" "strike" "(I)V") ∈ lw_all := lw_g (lw_at lw_m2 154 rfl) rfl
theorem q486 : (Jvm.Cond.selects "RiverGauge$Height" ({ cls := "RiverGauge$Height", name := "strike", desc := "(I)V" } : Jvm.MethodName) ({ cls := "RiverGauge$Strikable", name := "strike", desc := "(I)V" } : Jvm.MethodName)) ∈ lw_all := lw_g (lw_at lw_m2 156 rfl) rfl
theorem q502 : (Jvm.Cond.sameMethod "RiverGauge$Height" "RiverGauge$Told" "isKnown" "(I)Z") ∈ lw_all := lw_g (lw_at lw_m2 172 rfl) rfl
theorem q503 : (Jvm.Cond.selects "RiverGauge$Height" ({ cls := "RiverGauge$Height", name := "isKnown", desc := "(I)Z" } : Jvm.MethodName) ({ cls := "RiverGauge$Told", name := "isKnown", desc := "(I)Z" } : Jvm.MethodName)) ∈ lw_all := lw_g (lw_at lw_m2 173 rfl) rfl
theorem q505 : (Jvm.Cond.sameMethod "RiverGauge$Height" "RiverGauge$Strikable" "isStruckBy" "(I)Z") ∈ lw_all := lw_g (lw_at lw_m2 175 rfl) rfl
theorem q507 : (Jvm.Cond.selects "RiverGauge$Height" ({ cls := "RiverGauge$Height", name := "isStruckBy", desc := "(I)Z" } : Jvm.MethodName) ({ cls := "RiverGauge$Strikable", name := "isStruckBy", desc := "(I)Z" } : Jvm.MethodName)) ∈ lw_all := lw_g (lw_at lw_m2 177 rfl) rfl
theorem q519 : (Jvm.Cond.sameMethod "RiverGauge$Height" "RiverGauge$Strikable" "isTold" "(I)Z") ∈ lw_all := lw_g (lw_at lw_m2 189 rfl) rfl
theorem q521 : (Jvm.Cond.selects "RiverGauge$Height" ({ cls := "RiverGauge$Height", name := "isTold", desc := "(I)Z" } : Jvm.MethodName) ({ cls := "RiverGauge$Strikable", name := "isTold", desc := "(I)Z" } : Jvm.MethodName)) ∈ lw_all := lw_g (lw_at lw_m2 191 rfl) rfl
theorem q527 : (Jvm.Cond.selects "RiverGauge$Height" ({ cls := "RiverGauge$Strikable", name := "isKnown", desc := "(I)Z" } : Jvm.MethodName) ({ cls := "RiverGauge$Told", name := "isKnown", desc := "(I)Z" } : Jvm.MethodName)) ∈ lw_all := lw_g (lw_at lw_m2 197 rfl) rfl
theorem in_X7 : ∀ w ∈ wsX70, w ∈ lw_all := lw_in wsX70 [477, 479, 480, 481, 473, 475] (by decide +kernel) (by decide +kernel)

/-! java/lang/Math -/
set_option maxRecDepth 100000
def RJ4 : String := "java/lang/Math"
abbrev cJ4_abs : ByteArray := prog_30_method_59_code
def yJ4_abs : MethodName := ⟨RJ4, "abs", "(I)I"⟩
abbrev cJ4_min : ByteArray := prog_30_method_70_code
def yJ4_min : MethodName := ⟨RJ4, "min", "(JJ)J"⟩
abbrev cJ4_max : ByteArray := prog_30_method_66_code
def yJ4_max : MethodName := ⟨RJ4, "max", "(JJ)J"⟩
abbrev cJ4_max_2 : ByteArray := prog_30_method_65_code
def yJ4_max_2 : MethodName := ⟨RJ4, "max", "(II)I"⟩
abbrev cJ4_min_2 : ByteArray := prog_30_method_69_code
def yJ4_min_2 : MethodName := ⟨RJ4, "min", "(II)I"⟩
abbrev cJ4_floorDiv : ByteArray := prog_30_method_47_code
def yJ4_floorDiv : MethodName := ⟨RJ4, "floorDiv", "(II)I"⟩
theorem q103 : (Jvm.Cond.initialized "java/lang/Math") ∈ lw_all := lw_g (lw_at lw_m1 13 rfl) rfl
theorem q533 : (Jvm.Cond.static ({ cls := "java/lang/Math", name := "abs", desc := "(I)I" } : Jvm.MethodName)) ∈ lw_all := lw_g (lw_at lw_m2 203 rfl) rfl
theorem q534 : (Jvm.Cond.code ({ cls := "java/lang/Math", name := "abs", desc := "(I)I" } : Jvm.MethodName) prog_30_method_59_code (1 : Nat) (Option.some Jvm.ClassFile.FieldType.int)) ∈ lw_all := lw_g (lw_at lw_m2 204 rfl) rfl
theorem q558 : (Jvm.Cond.static ({ cls := "java/lang/Math", name := "min", desc := "(JJ)J" } : Jvm.MethodName)) ∈ lw_all := lw_g (lw_at lw_m2 228 rfl) rfl
theorem q559 : (Jvm.Cond.code ({ cls := "java/lang/Math", name := "min", desc := "(JJ)J" } : Jvm.MethodName) prog_30_method_70_code (4 : Nat) (Option.some Jvm.ClassFile.FieldType.long)) ∈ lw_all := lw_g (lw_at lw_m2 229 rfl) rfl
theorem q561 : (Jvm.Cond.static ({ cls := "java/lang/Math", name := "max", desc := "(JJ)J" } : Jvm.MethodName)) ∈ lw_all := lw_g (lw_at lw_m2 231 rfl) rfl
theorem q562 : (Jvm.Cond.code ({ cls := "java/lang/Math", name := "max", desc := "(JJ)J" } : Jvm.MethodName) prog_30_method_66_code (4 : Nat) (Option.some Jvm.ClassFile.FieldType.long)) ∈ lw_all := lw_g (lw_at lw_m2 232 rfl) rfl
theorem q733 : (Jvm.Cond.static ({ cls := "java/lang/Math", name := "max", desc := "(II)I" } : Jvm.MethodName)) ∈ lw_all := lw_g (lw_at lw_m3 163 rfl) rfl
theorem q734 : (Jvm.Cond.code ({ cls := "java/lang/Math", name := "max", desc := "(II)I" } : Jvm.MethodName) prog_30_method_65_code (2 : Nat) (Option.some Jvm.ClassFile.FieldType.int)) ∈ lw_all := lw_g (lw_at lw_m3 164 rfl) rfl
theorem q736 : (Jvm.Cond.static ({ cls := "java/lang/Math", name := "min", desc := "(II)I" } : Jvm.MethodName)) ∈ lw_all := lw_g (lw_at lw_m3 166 rfl) rfl
theorem q737 : (Jvm.Cond.code ({ cls := "java/lang/Math", name := "min", desc := "(II)I" } : Jvm.MethodName) prog_30_method_69_code (2 : Nat) (Option.some Jvm.ClassFile.FieldType.int)) ∈ lw_all := lw_g (lw_at lw_m3 167 rfl) rfl
theorem q1164 : (Jvm.Cond.static ({ cls := "java/lang/Math", name := "floorDiv", desc := "(II)I" } : Jvm.MethodName)) ∈ lw_all := lw_g (lw_at lw_m5 114 rfl) rfl
theorem q1165 : (Jvm.Cond.code ({ cls := "java/lang/Math", name := "floorDiv", desc := "(II)I" } : Jvm.MethodName) prog_30_method_47_code (3 : Nat) (Option.some Jvm.ClassFile.FieldType.int)) ∈ lw_all := lw_g (lw_at lw_m5 115 rfl) rfl

/-! RiverGauge$Flow -/
set_option maxRecDepth 100000
def RX8 : String := "RiverGauge$Flow"
def TX8 : u_T := fun k => match k with
  | 0 => ("RiverGauge$Strikable", "struck", "I", false)
  | 1 => ("RiverGauge$Told", "post", "I", true)
  | 2 => ("RiverGauge$Told", "time", "I", true)
  | 3 => ("RiverGauge$Told", "known", "I", true)
  | 4 => ("RiverGauge$Flow", "flow", "I", true)
  | _ => ("RiverGauge$Flow", "wrong", "I", true)
def tyX8 : Nat → FieldType := fun k => match k with
  | 0 => .int
  | 1 => .int
  | 2 => .int
  | 3 => .int
  | 4 => .int
  | _ => .int
abbrev wsX80 : List Cond := u_ws RX8 TX8 6
theorem nmX8 : ∀ a, a < 6 → ∀ b, b < 6 → a ≠ b → (TX8 a).2.1 ≠ (TX8 b).2.1 := by decide +kernel
theorem tyX8_ok : ∀ k, k < 6 → parseFieldDescriptor (TX8 k).2.2.1 = some (tyX8 k) := by decide +kernel
abbrev cX8_init : ByteArray := prog_8_method_1_code
def yX8_init : MethodName := ⟨RX8, "<init>", "(IIIII)V"⟩
abbrev cX8_lets : ByteArray := prog_8_method_2_code
def yX8_lets : MethodName := ⟨RX8, "lets", "(J)Z"⟩
theorem q104 : (Jvm.Cond.initialized "RiverGauge$Flow") ∈ lw_all := lw_g (lw_at lw_m1 14 rfl) rfl
theorem q418 : (Jvm.Cond.sameField "RiverGauge$Flow" "RiverGauge$Told" "post" "I") ∈ lw_all := lw_g (lw_at lw_m2 88 rfl) rfl
theorem q429 : (Jvm.Cond.sameField "RiverGauge$Flow" "RiverGauge$Told" "time" "I") ∈ lw_all := lw_g (lw_at lw_m2 99 rfl) rfl
theorem q526 : (Jvm.Cond.selects "RiverGauge$Flow" ({ cls := "RiverGauge$Strikable", name := "isKnown", desc := "(I)Z" } : Jvm.MethodName) ({ cls := "RiverGauge$Told", name := "isKnown", desc := "(I)Z" } : Jvm.MethodName)) ∈ lw_all := lw_g (lw_at lw_m2 196 rfl) rfl
theorem q579 : (Jvm.Cond.instantiable "RiverGauge$Flow" (6 : Nat)) ∈ lw_all := lw_g (lw_at lw_m3 9 rfl) rfl
theorem q581 : (Jvm.Cond.instanceMethod ({ cls := "RiverGauge$Flow", name := "<init>", desc := "(IIIII)V" } : Jvm.MethodName)) ∈ lw_all := lw_g (lw_at lw_m3 11 rfl) rfl
theorem q582 : (Jvm.Cond.code ({ cls := "RiverGauge$Flow", name := "<init>", desc := "(IIIII)V" } : Jvm.MethodName) prog_8_method_1_code (6 : Nat) (Option.none : Option Jvm.ClassFile.FieldType)) ∈ lw_all := lw_g (lw_at lw_m3 12 rfl) rfl
theorem q583 : (Jvm.Cond.methodLink "RiverGauge$Flow" (1 : Nat) ({ cls := "RiverGauge$Strikable", name := "<init>", desc := "(III)V" } : Jvm.MethodName)) ∈ lw_all := lw_g (lw_at lw_m3 13 rfl) rfl
theorem q584 : (Jvm.Cond.fieldLink "RiverGauge$Flow" (7 : Nat) "RiverGauge$Flow" "flow" "I") ∈ lw_all := lw_g (lw_at lw_m3 14 rfl) rfl
theorem q586 : (Jvm.Cond.fieldLink "RiverGauge$Flow" (13 : Nat) "RiverGauge$Flow" "wrong" "I") ∈ lw_all := lw_g (lw_at lw_m3 16 rfl) rfl
theorem q588 : (Jvm.Cond.laysFinal "RiverGauge$Flow" "RiverGauge$Flow" "flow" "I") ∈ lw_all := lw_g (lw_at lw_m3 18 rfl) rfl
theorem q589 : (Jvm.Cond.soleField "RiverGauge$Flow" "flow") ∈ lw_all := lw_g (lw_at lw_m3 19 rfl) rfl
theorem q590 : (Jvm.Cond.laysFinal "RiverGauge$Flow" "RiverGauge$Flow" "wrong" "I") ∈ lw_all := lw_g (lw_at lw_m3 20 rfl) rfl
theorem q591 : (Jvm.Cond.soleField "RiverGauge$Flow" "wrong") ∈ lw_all := lw_g (lw_at lw_m3 21 rfl) rfl
theorem q592 : (Jvm.Cond.lays "RiverGauge$Flow" "RiverGauge$Strikable" "struck" "I") ∈ lw_all := lw_g (lw_at lw_m3 22 rfl) rfl
theorem q593 : (Jvm.Cond.laysFinal "RiverGauge$Flow" "RiverGauge$Told" "post" "I") ∈ lw_all := lw_g (lw_at lw_m3 23 rfl) rfl
theorem q594 : (Jvm.Cond.laysFinal "RiverGauge$Flow" "RiverGauge$Told" "time" "I") ∈ lw_all := lw_g (lw_at lw_m3 24 rfl) rfl
theorem q595 : (Jvm.Cond.laysFinal "RiverGauge$Flow" "RiverGauge$Told" "known" "I") ∈ lw_all := lw_g (lw_at lw_m3 25 rfl) rfl
theorem q596 : (Jvm.Cond.superclass "RiverGauge$Flow" "RiverGauge$Strikable") ∈ lw_all := lw_g (lw_at lw_m3 26 rfl) rfl
theorem q598 : (Jvm.Cond.sameMethod "RiverGauge$Flow" "RiverGauge$Strikable" "strike" "(I)V") ∈ lw_all := lw_g (lw_at lw_m3 28 rfl) rfl
theorem q599 : (Jvm.Cond.selects "RiverGauge$Flow" ({ cls := "RiverGauge$Flow", name := "strike", desc := "(I)V" } : Jvm.MethodName) ({ cls := "RiverGauge$Strikable", name := "strike", desc := "(I)V" } : Jvm.MethodName)) ∈ lw_all := lw_g (lw_at lw_m3 29 rfl) rfl
theorem q605 : (Jvm.Cond.sameMethod "RiverGauge$Flow" "RiverGauge$Strikable" "isTold" "(I)Z") ∈ lw_all := lw_g (lw_at lw_m3 35 rfl) rfl
theorem q606 : (Jvm.Cond.selects "RiverGauge$Flow" ({ cls := "RiverGauge$Flow", name := "isTold", desc := "(I)Z" } : Jvm.MethodName) ({ cls := "RiverGauge$Strikable", name := "isTold", desc := "(I)Z" } : Jvm.MethodName)) ∈ lw_all := lw_g (lw_at lw_m3 36 rfl) rfl
theorem q1076 : (Jvm.Cond.instanceMethod ({ cls := "RiverGauge$Flow", name := "lets", desc := "(J)Z" } : Jvm.MethodName)) ∈ lw_all := lw_g (lw_at lw_m5 26 rfl) rfl
theorem q1077 : (Jvm.Cond.selects "RiverGauge$Flow" ({ cls := "RiverGauge$Flow", name := "lets", desc := "(J)Z" } : Jvm.MethodName) ({ cls := "RiverGauge$Flow", name := "lets", desc := "(J)Z" } : Jvm.MethodName)) ∈ lw_all := lw_g (lw_at lw_m5 27 rfl) rfl
theorem q1078 : (Jvm.Cond.code ({ cls := "RiverGauge$Flow", name := "lets", desc := "(J)Z" } : Jvm.MethodName) prog_8_method_2_code (4 : Nat) (Option.some Jvm.ClassFile.FieldType.boolean)) ∈ lw_all := lw_g (lw_at lw_m5 28 rfl) rfl
theorem q1079 : (Jvm.Cond.methodLinkNest "RiverGauge$Flow" (16 : Nat) ({ cls := "RiverGauge", name := "in", desc := "(JJJ)Z" } : Jvm.MethodName) "RiverGauge") ∈ lw_tbl := lw_at lw_m5 29 rfl
theorem in_X8 : ∀ w ∈ wsX80, w ∈ lw_all := lw_in wsX80 [592, 593, 594, 595, 588, 590] (by decide +kernel) (by decide +kernel)

/-! RiverGauge$Standard -/
set_option maxRecDepth 100000
def RX9 : String := "RiverGauge$Standard"
def TX9 : u_T := fun k => match k with
  | 0 => ("RiverGauge$Standard", "purpose", "I", true)
  | 1 => ("RiverGauge$Standard", "day", "I", true)
  | 2 => ("RiverGauge$Standard", "known", "I", true)
  | _ => ("RiverGauge$Standard", "test", "LRiverGauge$Test;", true)
def tyX9 : Nat → FieldType := fun k => match k with
  | 0 => .int
  | 1 => .int
  | 2 => .int
  | _ => .object "RiverGauge$Test"
abbrev wsX90 : List Cond := u_ws RX9 TX9 4
theorem nmX9 : ∀ a, a < 4 → ∀ b, b < 4 → a ≠ b → (TX9 a).2.1 ≠ (TX9 b).2.1 := by decide +kernel
theorem tyX9_ok : ∀ k, k < 4 → parseFieldDescriptor (TX9 k).2.2.1 = some (tyX9 k) := by decide +kernel
abbrev cX9_init : ByteArray := prog_20_method_1_code
def yX9_init : MethodName := ⟨RX9, "<init>", "(IIILRiverGauge$Test;)V"⟩
theorem q105 : (Jvm.Cond.initialized "RiverGauge$Standard") ∈ lw_all := lw_g (lw_at lw_m1 15 rfl) rfl
theorem q620 : (Jvm.Cond.instantiable "RiverGauge$Standard" (4 : Nat)) ∈ lw_all := lw_g (lw_at lw_m3 50 rfl) rfl
theorem q865 : (Jvm.Cond.instanceMethod ({ cls := "RiverGauge$Standard", name := "<init>", desc := "(IIILRiverGauge$Test;)V" } : Jvm.MethodName)) ∈ lw_all := lw_g (lw_at lw_m4 55 rfl) rfl
theorem q866 : (Jvm.Cond.code ({ cls := "RiverGauge$Standard", name := "<init>", desc := "(IIILRiverGauge$Test;)V" } : Jvm.MethodName) prog_20_method_1_code (5 : Nat) (Option.none : Option Jvm.ClassFile.FieldType)) ∈ lw_all := lw_g (lw_at lw_m4 56 rfl) rfl
theorem q867 : (Jvm.Cond.methodLink "RiverGauge$Standard" (1 : Nat) ({ cls := "java/lang/Object", name := "<init>", desc := "()V" } : Jvm.MethodName)) ∈ lw_all := lw_g (lw_at lw_m4 57 rfl) rfl
theorem q868 : (Jvm.Cond.fieldLink "RiverGauge$Standard" (7 : Nat) "RiverGauge$Standard" "purpose" "I") ∈ lw_all := lw_g (lw_at lw_m4 58 rfl) rfl
theorem q870 : (Jvm.Cond.fieldLink "RiverGauge$Standard" (13 : Nat) "RiverGauge$Standard" "day" "I") ∈ lw_all := lw_g (lw_at lw_m4 60 rfl) rfl
theorem q872 : (Jvm.Cond.fieldLink "RiverGauge$Standard" (16 : Nat) "RiverGauge$Standard" "known" "I") ∈ lw_all := lw_g (lw_at lw_m4 62 rfl) rfl
theorem q874 : (Jvm.Cond.fieldLink "RiverGauge$Standard" (19 : Nat) "RiverGauge$Standard" "test" "LRiverGauge$Test;") ∈ lw_all := lw_g (lw_at lw_m4 64 rfl) rfl
theorem q876 : (Jvm.Cond.laysFinal "RiverGauge$Standard" "RiverGauge$Standard" "purpose" "I") ∈ lw_all := lw_g (lw_at lw_m4 66 rfl) rfl
theorem q877 : (Jvm.Cond.soleField "RiverGauge$Standard" "purpose") ∈ lw_all := lw_g (lw_at lw_m4 67 rfl) rfl
theorem q878 : (Jvm.Cond.laysFinal "RiverGauge$Standard" "RiverGauge$Standard" "day" "I") ∈ lw_all := lw_g (lw_at lw_m4 68 rfl) rfl
theorem q879 : (Jvm.Cond.soleField "RiverGauge$Standard" "day") ∈ lw_all := lw_g (lw_at lw_m4 69 rfl) rfl
theorem q880 : (Jvm.Cond.laysFinal "RiverGauge$Standard" "RiverGauge$Standard" "known" "I") ∈ lw_all := lw_g (lw_at lw_m4 70 rfl) rfl
theorem q881 : (Jvm.Cond.soleField "RiverGauge$Standard" "known") ∈ lw_all := lw_g (lw_at lw_m4 71 rfl) rfl
theorem q882 : (Jvm.Cond.laysFinal "RiverGauge$Standard" "RiverGauge$Standard" "test" "LRiverGauge$Test;") ∈ lw_all := lw_g (lw_at lw_m4 72 rfl) rfl
theorem q883 : (Jvm.Cond.soleField "RiverGauge$Standard" "test") ∈ lw_all := lw_g (lw_at lw_m4 73 rfl) rfl
theorem q884 : (Jvm.Cond.superclass "RiverGauge$Standard" "java/lang/Object") ∈ lw_all := lw_g (lw_at lw_m4 74 rfl) rfl
theorem in_X9 : ∀ w ∈ wsX90, w ∈ lw_all := lw_in wsX90 [876, 878, 880, 882] (by decide +kernel) (by decide +kernel)

/-! RiverGauge$Reader -/
set_option maxRecDepth 100000
def RX10 : String := "RiverGauge$Reader"
def TX10 : u_T := fun k => match k with
  | 0 => ("RiverGauge$Reader", "bytes", "[B", true)
  | 1 => ("RiverGauge$Reader", "length", "I", true)
  | 2 => ("RiverGauge$Reader", "at", "I", false)
  | _ => ("RiverGauge$Reader", "deep", "I", false)
def tyX10 : Nat → FieldType := fun k => match k with
  | 0 => .array .byte
  | 1 => .int
  | 2 => .int
  | _ => .int
abbrev wsX100 : List Cond := u_ws RX10 TX10 4
theorem nmX10 : ∀ a, a < 4 → ∀ b, b < 4 → a ≠ b → (TX10 a).2.1 ≠ (TX10 b).2.1 := by decide +kernel
theorem tyX10_ok : ∀ k, k < 4 → parseFieldDescriptor (TX10 k).2.2.1 = some (tyX10 k) := by decide +kernel
abbrev cX10_init : ByteArray := prog_16_method_1_code
def yX10_init : MethodName := ⟨RX10, "<init>", "([BI)V"⟩
abbrev cX10_whole : ByteArray := prog_16_method_5_code
def yX10_whole : MethodName := ⟨RX10, "whole", "()LRiverGauge$Test;"⟩
abbrev cX10_ors : ByteArray := prog_16_method_6_code
def yX10_ors : MethodName := ⟨RX10, "ors", "()LRiverGauge$Test;"⟩
abbrev cX10_ands : ByteArray := prog_16_method_7_code
def yX10_ands : MethodName := ⟨RX10, "ands", "()LRiverGauge$Test;"⟩
abbrev cX10_test : ByteArray := prog_16_method_9_code
def yX10_test : MethodName := ⟨RX10, "test", "()LRiverGauge$Test;"⟩
abbrev cX10_here : ByteArray := prog_16_method_2_code
def yX10_here : MethodName := ⟨RX10, "here", "()I"⟩
abbrev cX10_deeper : ByteArray := prog_16_method_8_code
def yX10_deeper : MethodName := ⟨RX10, "deeper", "()V"⟩
abbrev cX10_mustStand : ByteArray := prog_16_method_3_code
def yX10_mustStand : MethodName := ⟨RX10, "mustStand", "(Z)V"⟩
abbrev cX10_take : ByteArray := prog_16_method_4_code
def yX10_take : MethodName := ⟨RX10, "take", "(C)Z"⟩
abbrev cX10_sum : ByteArray := prog_16_method_10_code
def yX10_sum : MethodName := ⟨RX10, "sum", "()LRiverGauge$Sum;"⟩
abbrev cX10_unit : ByteArray := prog_16_method_11_code
def yX10_unit : MethodName := ⟨RX10, "unit", "()LRiverGauge$Sum;"⟩
theorem q106 : (Jvm.Cond.initialized "RiverGauge$Reader") ∈ lw_all := lw_g (lw_at lw_m1 16 rfl) rfl
theorem q622 : (Jvm.Cond.instantiable "RiverGauge$Reader" (4 : Nat)) ∈ lw_all := lw_g (lw_at lw_m3 52 rfl) rfl
theorem q624 : (Jvm.Cond.instanceMethod ({ cls := "RiverGauge$Reader", name := "<init>", desc := "([BI)V" } : Jvm.MethodName)) ∈ lw_all := lw_g (lw_at lw_m3 54 rfl) rfl
theorem q625 : (Jvm.Cond.code ({ cls := "RiverGauge$Reader", name := "<init>", desc := "([BI)V" } : Jvm.MethodName) prog_16_method_1_code (3 : Nat) (Option.none : Option Jvm.ClassFile.FieldType)) ∈ lw_all := lw_g (lw_at lw_m3 55 rfl) rfl
theorem q626 : (Jvm.Cond.methodLink "RiverGauge$Reader" (3 : Nat) ({ cls := "java/lang/Object", name := "<init>", desc := "()V" } : Jvm.MethodName)) ∈ lw_all := lw_g (lw_at lw_m3 56 rfl) rfl
theorem q627 : (Jvm.Cond.fieldLink "RiverGauge$Reader" (9 : Nat) "RiverGauge$Reader" "bytes" "[B") ∈ lw_all := lw_g (lw_at lw_m3 57 rfl) rfl
theorem q628 : (Jvm.Cond.fieldLink "RiverGauge$Reader" (15 : Nat) "RiverGauge$Reader" "length" "I") ∈ lw_all := lw_g (lw_at lw_m3 58 rfl) rfl
theorem q629 : (Jvm.Cond.fieldLink "RiverGauge$Reader" (19 : Nat) "RiverGauge$Reader" "at" "I") ∈ lw_all := lw_g (lw_at lw_m3 59 rfl) rfl
theorem q630 : (Jvm.Cond.fieldLink "RiverGauge$Reader" (54 : Nat) "RiverGauge$Reader" "deep" "I") ∈ lw_all := lw_g (lw_at lw_m3 60 rfl) rfl
theorem q631 : (Jvm.Cond.laysFinal "RiverGauge$Reader" "RiverGauge$Reader" "bytes" "[B") ∈ lw_all := lw_g (lw_at lw_m3 61 rfl) rfl
theorem q632 : (Jvm.Cond.soleField "RiverGauge$Reader" "bytes") ∈ lw_all := lw_g (lw_at lw_m3 62 rfl) rfl
theorem q633 : (Jvm.Cond.laysFinal "RiverGauge$Reader" "RiverGauge$Reader" "length" "I") ∈ lw_all := lw_g (lw_at lw_m3 63 rfl) rfl
theorem q634 : (Jvm.Cond.soleField "RiverGauge$Reader" "length") ∈ lw_all := lw_g (lw_at lw_m3 64 rfl) rfl
theorem q635 : (Jvm.Cond.lays "RiverGauge$Reader" "RiverGauge$Reader" "at" "I") ∈ lw_all := lw_g (lw_at lw_m3 65 rfl) rfl
theorem q636 : (Jvm.Cond.soleField "RiverGauge$Reader" "at") ∈ lw_all := lw_g (lw_at lw_m3 66 rfl) rfl
theorem q637 : (Jvm.Cond.lays "RiverGauge$Reader" "RiverGauge$Reader" "deep" "I") ∈ lw_all := lw_g (lw_at lw_m3 67 rfl) rfl
theorem q638 : (Jvm.Cond.soleField "RiverGauge$Reader" "deep") ∈ lw_all := lw_g (lw_at lw_m3 68 rfl) rfl
theorem q639 : (Jvm.Cond.superclass "RiverGauge$Reader" "java/lang/Object") ∈ lw_all := lw_g (lw_at lw_m3 69 rfl) rfl
theorem q641 : (Jvm.Cond.instanceMethod ({ cls := "RiverGauge$Reader", name := "whole", desc := "()LRiverGauge$Test;" } : Jvm.MethodName)) ∈ lw_all := lw_g (lw_at lw_m3 71 rfl) rfl
theorem q642 : (Jvm.Cond.selects "RiverGauge$Reader" ({ cls := "RiverGauge$Reader", name := "whole", desc := "()LRiverGauge$Test;" } : Jvm.MethodName) ({ cls := "RiverGauge$Reader", name := "whole", desc := "()LRiverGauge$Test;" } : Jvm.MethodName)) ∈ lw_all := lw_g (lw_at lw_m3 72 rfl) rfl
theorem q643 : (Jvm.Cond.code ({ cls := "RiverGauge$Reader", name := "whole", desc := "()LRiverGauge$Test;" } : Jvm.MethodName) prog_16_method_5_code (2 : Nat) (Option.some (Jvm.ClassFile.FieldType.object "RiverGauge$Test"))) ∈ lw_all := lw_g (lw_at lw_m3 73 rfl) rfl
theorem q644 : (Jvm.Cond.methodLink "RiverGauge$Reader" (31 : Nat) ({ cls := "RiverGauge$Reader", name := "ors", desc := "()LRiverGauge$Test;" } : Jvm.MethodName)) ∈ lw_all := lw_g (lw_at lw_m3 74 rfl) rfl
theorem q645 : (Jvm.Cond.privateMethod ({ cls := "RiverGauge$Reader", name := "ors", desc := "()LRiverGauge$Test;" } : Jvm.MethodName)) ∈ lw_tbl := lw_at lw_m3 75 rfl
theorem q646 : (Jvm.Cond.instanceMethod ({ cls := "RiverGauge$Reader", name := "ors", desc := "()LRiverGauge$Test;" } : Jvm.MethodName)) ∈ lw_all := lw_g (lw_at lw_m3 76 rfl) rfl
theorem q647 : (Jvm.Cond.code ({ cls := "RiverGauge$Reader", name := "ors", desc := "()LRiverGauge$Test;" } : Jvm.MethodName) prog_16_method_6_code (2 : Nat) (Option.some (Jvm.ClassFile.FieldType.object "RiverGauge$Test"))) ∈ lw_all := lw_g (lw_at lw_m3 77 rfl) rfl
theorem q648 : (Jvm.Cond.methodLink "RiverGauge$Reader" (39 : Nat) ({ cls := "RiverGauge$Reader", name := "ands", desc := "()LRiverGauge$Test;" } : Jvm.MethodName)) ∈ lw_all := lw_g (lw_at lw_m3 78 rfl) rfl
theorem q649 : (Jvm.Cond.privateMethod ({ cls := "RiverGauge$Reader", name := "ands", desc := "()LRiverGauge$Test;" } : Jvm.MethodName)) ∈ lw_tbl := lw_at lw_m3 79 rfl
theorem q650 : (Jvm.Cond.instanceMethod ({ cls := "RiverGauge$Reader", name := "ands", desc := "()LRiverGauge$Test;" } : Jvm.MethodName)) ∈ lw_all := lw_g (lw_at lw_m3 80 rfl) rfl
theorem q651 : (Jvm.Cond.code ({ cls := "RiverGauge$Reader", name := "ands", desc := "()LRiverGauge$Test;" } : Jvm.MethodName) prog_16_method_7_code (2 : Nat) (Option.some (Jvm.ClassFile.FieldType.object "RiverGauge$Test"))) ∈ lw_all := lw_g (lw_at lw_m3 81 rfl) rfl
theorem q652 : (Jvm.Cond.methodLink "RiverGauge$Reader" (51 : Nat) ({ cls := "RiverGauge$Reader", name := "test", desc := "()LRiverGauge$Test;" } : Jvm.MethodName)) ∈ lw_all := lw_g (lw_at lw_m3 82 rfl) rfl
theorem q653 : (Jvm.Cond.privateMethod ({ cls := "RiverGauge$Reader", name := "test", desc := "()LRiverGauge$Test;" } : Jvm.MethodName)) ∈ lw_tbl := lw_at lw_m3 83 rfl
theorem q654 : (Jvm.Cond.instanceMethod ({ cls := "RiverGauge$Reader", name := "test", desc := "()LRiverGauge$Test;" } : Jvm.MethodName)) ∈ lw_all := lw_g (lw_at lw_m3 84 rfl) rfl
theorem q655 : (Jvm.Cond.code ({ cls := "RiverGauge$Reader", name := "test", desc := "()LRiverGauge$Test;" } : Jvm.MethodName) prog_16_method_9_code (3 : Nat) (Option.some (Jvm.ClassFile.FieldType.object "RiverGauge$Test"))) ∈ lw_all := lw_g (lw_at lw_m3 85 rfl) rfl
theorem q656 : (Jvm.Cond.methodLink "RiverGauge$Reader" (27 : Nat) ({ cls := "RiverGauge$Reader", name := "here", desc := "()I" } : Jvm.MethodName)) ∈ lw_all := lw_g (lw_at lw_m3 86 rfl) rfl
theorem q657 : (Jvm.Cond.privateMethod ({ cls := "RiverGauge$Reader", name := "here", desc := "()I" } : Jvm.MethodName)) ∈ lw_tbl := lw_at lw_m3 87 rfl
theorem q658 : (Jvm.Cond.instanceMethod ({ cls := "RiverGauge$Reader", name := "here", desc := "()I" } : Jvm.MethodName)) ∈ lw_all := lw_g (lw_at lw_m3 88 rfl) rfl
theorem q659 : (Jvm.Cond.code ({ cls := "RiverGauge$Reader", name := "here", desc := "()I" } : Jvm.MethodName) prog_16_method_2_code (1 : Nat) (Option.some Jvm.ClassFile.FieldType.int)) ∈ lw_all := lw_g (lw_at lw_m3 89 rfl) rfl
theorem q660 : (Jvm.Cond.methodLink "RiverGauge$Reader" (57 : Nat) ({ cls := "RiverGauge$Reader", name := "deeper", desc := "()V" } : Jvm.MethodName)) ∈ lw_all := lw_g (lw_at lw_m3 90 rfl) rfl
theorem q661 : (Jvm.Cond.privateMethod ({ cls := "RiverGauge$Reader", name := "deeper", desc := "()V" } : Jvm.MethodName)) ∈ lw_tbl := lw_at lw_m3 91 rfl
theorem q662 : (Jvm.Cond.instanceMethod ({ cls := "RiverGauge$Reader", name := "deeper", desc := "()V" } : Jvm.MethodName)) ∈ lw_all := lw_g (lw_at lw_m3 92 rfl) rfl
theorem q663 : (Jvm.Cond.code ({ cls := "RiverGauge$Reader", name := "deeper", desc := "()V" } : Jvm.MethodName) prog_16_method_8_code (1 : Nat) (Option.none : Option Jvm.ClassFile.FieldType)) ∈ lw_all := lw_g (lw_at lw_m3 93 rfl) rfl
theorem q664 : (Jvm.Cond.methodLink "RiverGauge$Reader" (35 : Nat) ({ cls := "RiverGauge$Reader", name := "mustStand", desc := "(Z)V" } : Jvm.MethodName)) ∈ lw_all := lw_g (lw_at lw_m3 94 rfl) rfl
theorem q665 : (Jvm.Cond.privateMethod ({ cls := "RiverGauge$Reader", name := "mustStand", desc := "(Z)V" } : Jvm.MethodName)) ∈ lw_tbl := lw_at lw_m3 95 rfl
theorem q666 : (Jvm.Cond.instanceMethod ({ cls := "RiverGauge$Reader", name := "mustStand", desc := "(Z)V" } : Jvm.MethodName)) ∈ lw_all := lw_g (lw_at lw_m3 96 rfl) rfl
theorem q667 : (Jvm.Cond.code ({ cls := "RiverGauge$Reader", name := "mustStand", desc := "(Z)V" } : Jvm.MethodName) prog_16_method_3_code (2 : Nat) (Option.none : Option Jvm.ClassFile.FieldType)) ∈ lw_all := lw_g (lw_at lw_m3 97 rfl) rfl
theorem q668 : (Jvm.Cond.classLink "RiverGauge$Reader" (22 : Nat) "RiverGauge$BadText") ∈ lw_all := lw_g (lw_at lw_m3 98 rfl) rfl
theorem q677 : (Jvm.Cond.methodLink "RiverGauge$Reader" (24 : Nat) ({ cls := "RiverGauge$BadText", name := "<init>", desc := "(I)V" } : Jvm.MethodName)) ∈ lw_all := lw_g (lw_at lw_m3 107 rfl) rfl
theorem q684 : (Jvm.Cond.classLink "RiverGauge$Reader" (60 : Nat) "RiverGauge$Not") ∈ lw_all := lw_g (lw_at lw_m3 114 rfl) rfl
theorem q686 : (Jvm.Cond.methodLink "RiverGauge$Reader" (62 : Nat) ({ cls := "RiverGauge$Not", name := "<init>", desc := "(LRiverGauge$Test;)V" } : Jvm.MethodName)) ∈ lw_all := lw_g (lw_at lw_m3 116 rfl) rfl
theorem q700 : (Jvm.Cond.methodLink "RiverGauge$Reader" (42 : Nat) ({ cls := "RiverGauge$Reader", name := "take", desc := "(C)Z" } : Jvm.MethodName)) ∈ lw_all := lw_g (lw_at lw_m3 130 rfl) rfl
theorem q701 : (Jvm.Cond.privateMethod ({ cls := "RiverGauge$Reader", name := "take", desc := "(C)Z" } : Jvm.MethodName)) ∈ lw_tbl := lw_at lw_m3 131 rfl
theorem q702 : (Jvm.Cond.instanceMethod ({ cls := "RiverGauge$Reader", name := "take", desc := "(C)Z" } : Jvm.MethodName)) ∈ lw_all := lw_g (lw_at lw_m3 132 rfl) rfl
theorem q703 : (Jvm.Cond.code ({ cls := "RiverGauge$Reader", name := "take", desc := "(C)Z" } : Jvm.MethodName) prog_16_method_4_code (2 : Nat) (Option.some Jvm.ClassFile.FieldType.boolean)) ∈ lw_all := lw_g (lw_at lw_m3 133 rfl) rfl
theorem q704 : (Jvm.Cond.methodLink "RiverGauge$Reader" (65 : Nat) ({ cls := "RiverGauge$Reader", name := "sum", desc := "()LRiverGauge$Sum;" } : Jvm.MethodName)) ∈ lw_all := lw_g (lw_at lw_m3 134 rfl) rfl
theorem q705 : (Jvm.Cond.privateMethod ({ cls := "RiverGauge$Reader", name := "sum", desc := "()LRiverGauge$Sum;" } : Jvm.MethodName)) ∈ lw_tbl := lw_at lw_m3 135 rfl
theorem q706 : (Jvm.Cond.instanceMethod ({ cls := "RiverGauge$Reader", name := "sum", desc := "()LRiverGauge$Sum;" } : Jvm.MethodName)) ∈ lw_all := lw_g (lw_at lw_m3 136 rfl) rfl
theorem q707 : (Jvm.Cond.code ({ cls := "RiverGauge$Reader", name := "sum", desc := "()LRiverGauge$Sum;" } : Jvm.MethodName) prog_16_method_10_code (3 : Nat) (Option.some (Jvm.ClassFile.FieldType.object "RiverGauge$Sum"))) ∈ lw_all := lw_g (lw_at lw_m3 137 rfl) rfl
theorem q708 : (Jvm.Cond.methodLink "RiverGauge$Reader" (74 : Nat) ({ cls := "RiverGauge$Reader", name := "unit", desc := "()LRiverGauge$Sum;" } : Jvm.MethodName)) ∈ lw_all := lw_g (lw_at lw_m3 138 rfl) rfl
theorem q709 : (Jvm.Cond.privateMethod ({ cls := "RiverGauge$Reader", name := "unit", desc := "()LRiverGauge$Sum;" } : Jvm.MethodName)) ∈ lw_tbl := lw_at lw_m3 139 rfl
theorem q710 : (Jvm.Cond.instanceMethod ({ cls := "RiverGauge$Reader", name := "unit", desc := "()LRiverGauge$Sum;" } : Jvm.MethodName)) ∈ lw_all := lw_g (lw_at lw_m3 140 rfl) rfl
theorem q711 : (Jvm.Cond.code ({ cls := "RiverGauge$Reader", name := "unit", desc := "()LRiverGauge$Sum;" } : Jvm.MethodName) prog_16_method_11_code (4 : Nat) (Option.some (Jvm.ClassFile.FieldType.object "RiverGauge$Sum"))) ∈ lw_all := lw_g (lw_at lw_m3 141 rfl) rfl
theorem q712 : (Jvm.Cond.stringRef "RiverGauge$Reader" (80 : Nat) "dmrkabghnfwxi") ∈ lw_tbl := lw_at lw_m3 142 rfl
theorem q713 : (Jvm.Cond.methodLink "RiverGauge$Reader" (82 : Nat) ({ cls := "java/lang/String", name := "indexOf", desc := "(I)I" } : Jvm.MethodName)) ∈ lw_all := lw_g (lw_at lw_m3 143 rfl) rfl
theorem q790 : (Jvm.Cond.classLink "RiverGauge$Reader" (88 : Nat) "RiverGauge$Letter") ∈ lw_all := lw_g (lw_at lw_m3 220 rfl) rfl
theorem q792 : (Jvm.Cond.methodLink "RiverGauge$Reader" (90 : Nat) ({ cls := "RiverGauge$Letter", name := "<init>", desc := "(I)V" } : Jvm.MethodName)) ∈ lw_all := lw_g (lw_at lw_m3 222 rfl) rfl
theorem q803 : (Jvm.Cond.constantLong "RiverGauge$Reader" (91 : Nat) (48 : Int64)) ∈ lw_all := lw_g (lw_at lw_m3 233 rfl) rfl
theorem q804 : (Jvm.Cond.constantLong "RiverGauge$Reader" (93 : Nat) (57 : Int64)) ∈ lw_all := lw_g (lw_at lw_m3 234 rfl) rfl
theorem q805 : (Jvm.Cond.methodLinkNest "RiverGauge$Reader" (95 : Nat) ({ cls := "RiverGauge", name := "in", desc := "(JJJ)Z" } : Jvm.MethodName) "RiverGauge") ∈ lw_tbl := lw_at lw_m3 235 rfl
theorem q806 : (Jvm.Cond.classLink "RiverGauge$Reader" (99 : Nat) "RiverGauge$Plain") ∈ lw_all := lw_g (lw_at lw_m3 236 rfl) rfl
theorem q808 : (Jvm.Cond.methodLink "RiverGauge$Reader" (101 : Nat) ({ cls := "RiverGauge$Plain", name := "<init>", desc := "(I)V" } : Jvm.MethodName)) ∈ lw_all := lw_g (lw_at lw_m3 238 rfl) rfl
theorem q816 : (Jvm.Cond.classLink "RiverGauge$Reader" (77 : Nat) "RiverGauge$Joined") ∈ lw_all := lw_g (lw_at lw_m4 6 rfl) rfl
theorem q818 : (Jvm.Cond.methodLink "RiverGauge$Reader" (79 : Nat) ({ cls := "RiverGauge$Joined", name := "<init>", desc := "(LRiverGauge$Sum;LRiverGauge$Sum;I)V" } : Jvm.MethodName)) ∈ lw_all := lw_g (lw_at lw_m4 8 rfl) rfl
theorem q832 : (Jvm.Cond.classLink "RiverGauge$Reader" (69 : Nat) "RiverGauge$Compare") ∈ lw_all := lw_g (lw_at lw_m4 22 rfl) rfl
theorem q834 : (Jvm.Cond.methodLink "RiverGauge$Reader" (71 : Nat) ({ cls := "RiverGauge$Compare", name := "<init>", desc := "(LRiverGauge$Sum;LRiverGauge$Sum;I)V" } : Jvm.MethodName)) ∈ lw_all := lw_g (lw_at lw_m4 24 rfl) rfl
theorem q848 : (Jvm.Cond.classLink "RiverGauge$Reader" (46 : Nat) "RiverGauge$Both") ∈ lw_all := lw_g (lw_at lw_m4 38 rfl) rfl
theorem q850 : (Jvm.Cond.methodLink "RiverGauge$Reader" (48 : Nat) ({ cls := "RiverGauge$Both", name := "<init>", desc := "(LRiverGauge$Test;LRiverGauge$Test;Z)V" } : Jvm.MethodName)) ∈ lw_all := lw_g (lw_at lw_m4 40 rfl) rfl
theorem in_X10 : ∀ w ∈ wsX100, w ∈ lw_all := lw_in wsX100 [631, 633, 635, 637] (by decide +kernel) (by decide +kernel)

/-! RiverGauge$BadText -/
set_option maxRecDepth 100000
def RX11 : String := "RiverGauge$BadText"
def TX11 : u_T := fun k => match k with
  | 0 => ("java/lang/Throwable", "cause", "Ljava/lang/Throwable;", false)
  | 1 => ("java/lang/Throwable", "stackTrace", "[Ljava/lang/StackTraceElement;", false)
  | 2 => ("java/lang/Throwable", "suppressedExceptions", "Ljava/util/List;", false)
  | 3 => ("java/lang/Throwable", "detailMessage", "Ljava/lang/String;", false)
  | 4 => ("java/lang/Throwable", "backtrace", "Ljava/lang/Object;", false)
  | 5 => ("RiverGauge$Refused", "number", "I", true)
  | _ => ("java/lang/Throwable", "depth", "I", false)
def tyX11 : Nat → FieldType := fun k => match k with
  | 0 => .object "java/lang/Throwable"
  | 1 => .array (.object "java/lang/StackTraceElement")
  | 2 => .object "java/util/List"
  | 3 => .object "java/lang/String"
  | 4 => .object "java/lang/Object"
  | 5 => .int
  | _ => .int
abbrev wsX110 : List Cond := u_ws RX11 TX11 7
theorem nmX11 : ∀ a, a < 7 → ∀ b, b < 7 → a ≠ b → (TX11 a).2.1 ≠ (TX11 b).2.1 := by decide +kernel
theorem tyX11_ok : ∀ k, k < 7 → parseFieldDescriptor (TX11 k).2.2.1 = some (tyX11 k) := by decide +kernel
abbrev cX11_init : ByteArray := prog_2_method_1_code
def yX11_init : MethodName := ⟨RX11, "<init>", "(I)V"⟩
theorem q107 : (Jvm.Cond.initialized "RiverGauge$BadText") ∈ lw_all := lw_g (lw_at lw_m1 17 rfl) rfl
theorem q361 : (Jvm.Cond.selects "RiverGauge$BadText" ({ cls := "java/lang/Throwable", name := "fillInStackTrace", desc := "()Ljava/lang/Throwable;" } : Jvm.MethodName) ({ cls := "java/lang/Throwable", name := "fillInStackTrace", desc := "()Ljava/lang/Throwable;" } : Jvm.MethodName)) ∈ lw_all := lw_g (lw_at lw_m2 31 rfl) rfl
theorem q669 : (Jvm.Cond.instantiable "RiverGauge$BadText" (7 : Nat)) ∈ lw_all := lw_g (lw_at lw_m3 99 rfl) rfl
theorem q670 : (Jvm.Cond.castable "RiverGauge$BadText" "RiverGauge$BadText") ∈ lw_tbl := lw_at lw_m3 100 rfl
theorem q671 : (Jvm.Cond.selects "RiverGauge$BadText" ({ cls := "java/lang/Throwable", name := "fillInStackTrace", desc := "(I)Ljava/lang/Throwable;" } : Jvm.MethodName) ({ cls := "java/lang/Throwable", name := "fillInStackTrace", desc := "(I)Ljava/lang/Throwable;" } : Jvm.MethodName)) ∈ lw_all := lw_g (lw_at lw_m3 101 rfl) rfl
theorem q672 : (Jvm.Cond.lays "RiverGauge$BadText" "java/lang/Throwable" "cause" "Ljava/lang/Throwable;") ∈ lw_all := lw_g (lw_at lw_m3 102 rfl) rfl
theorem q673 : (Jvm.Cond.lays "RiverGauge$BadText" "java/lang/Throwable" "stackTrace" "[Ljava/lang/StackTraceElement;") ∈ lw_all := lw_g (lw_at lw_m3 103 rfl) rfl
theorem q674 : (Jvm.Cond.lays "RiverGauge$BadText" "java/lang/Throwable" "suppressedExceptions" "Ljava/util/List;") ∈ lw_all := lw_g (lw_at lw_m3 104 rfl) rfl
theorem q675 : (Jvm.Cond.lays "RiverGauge$BadText" "java/lang/Throwable" "detailMessage" "Ljava/lang/String;") ∈ lw_all := lw_g (lw_at lw_m3 105 rfl) rfl
theorem q676 : (Jvm.Cond.lays "RiverGauge$BadText" "java/lang/Throwable" "backtrace" "Ljava/lang/Object;") ∈ lw_all := lw_g (lw_at lw_m3 106 rfl) rfl
theorem q678 : (Jvm.Cond.instanceMethod ({ cls := "RiverGauge$BadText", name := "<init>", desc := "(I)V" } : Jvm.MethodName)) ∈ lw_all := lw_g (lw_at lw_m3 108 rfl) rfl
theorem q679 : (Jvm.Cond.code ({ cls := "RiverGauge$BadText", name := "<init>", desc := "(I)V" } : Jvm.MethodName) prog_2_method_1_code (2 : Nat) (Option.none : Option Jvm.ClassFile.FieldType)) ∈ lw_all := lw_g (lw_at lw_m3 109 rfl) rfl
theorem q680 : (Jvm.Cond.methodLink "RiverGauge$BadText" (1 : Nat) ({ cls := "RiverGauge$Refused", name := "<init>", desc := "(I)V" } : Jvm.MethodName)) ∈ lw_all := lw_g (lw_at lw_m3 110 rfl) rfl
theorem q681 : (Jvm.Cond.laysFinal "RiverGauge$BadText" "RiverGauge$Refused" "number" "I") ∈ lw_all := lw_g (lw_at lw_m3 111 rfl) rfl
theorem q682 : (Jvm.Cond.lays "RiverGauge$BadText" "java/lang/Throwable" "depth" "I") ∈ lw_all := lw_g (lw_at lw_m3 112 rfl) rfl
theorem q683 : (Jvm.Cond.superclass "RiverGauge$BadText" "RiverGauge$Refused") ∈ lw_all := lw_g (lw_at lw_m3 113 rfl) rfl
theorem q1173 : (Jvm.Cond.selects "RiverGauge$BadText" ({ cls := "RiverGauge$Refusal", name := "number", desc := "()I" } : Jvm.MethodName) ({ cls := "RiverGauge$Refused", name := "number", desc := "()I" } : Jvm.MethodName)) ∈ lw_all := lw_g (lw_at lw_m5 123 rfl) rfl
theorem q1908 : (Jvm.Cond.castable "RiverGauge$BadText" "RiverGauge$Refusal") ∈ lw_tbl := lw_at lw_m8 138 rfl
theorem in_X11 : ∀ w ∈ wsX110, w ∈ lw_all := lw_in wsX110 [672, 673, 674, 675, 676, 681, 682] (by decide +kernel) (by decide +kernel)

/-! RiverGauge$Part -/
set_option maxRecDepth 100000
def RX12 : String := "RiverGauge$Part"
abbrev cX12_init : ByteArray := prog_14_method_1_code
def yX12_init : MethodName := ⟨RX12, "<init>", "()V"⟩
theorem q108 : (Jvm.Cond.initialized "RiverGauge$Part") ∈ lw_all := lw_g (lw_at lw_m1 18 rfl) rfl
theorem q693 : (Jvm.Cond.instanceMethod ({ cls := "RiverGauge$Part", name := "<init>", desc := "()V" } : Jvm.MethodName)) ∈ lw_all := lw_g (lw_at lw_m3 123 rfl) rfl
theorem q694 : (Jvm.Cond.code ({ cls := "RiverGauge$Part", name := "<init>", desc := "()V" } : Jvm.MethodName) prog_14_method_1_code (1 : Nat) (Option.none : Option Jvm.ClassFile.FieldType)) ∈ lw_all := lw_g (lw_at lw_m3 124 rfl) rfl
theorem q695 : (Jvm.Cond.methodLink "RiverGauge$Part" (1 : Nat) ({ cls := "java/lang/Object", name := "<init>", desc := "()V" } : Jvm.MethodName)) ∈ lw_all := lw_g (lw_at lw_m3 125 rfl) rfl

/-! RiverGauge$Test -/
set_option maxRecDepth 100000
def RX13 : String := "RiverGauge$Test"
abbrev cX13_init : ByteArray := prog_23_method_1_code
def yX13_init : MethodName := ⟨RX13, "<init>", "()V"⟩
theorem q109 : (Jvm.Cond.initialized "RiverGauge$Test") ∈ lw_all := lw_g (lw_at lw_m1 19 rfl) rfl
theorem q536 : (Jvm.Cond.declares ({ cls := "RiverGauge$Test", name := "holds", desc := "([I)Z" } : Jvm.MethodName)) ∈ lw_tbl := lw_at lw_m2 206 rfl
theorem q537 : (Jvm.Cond.sameMethod "RiverGauge$Test" "RiverGauge$Test" "holds" "([I)Z") ∈ lw_all := lw_g (lw_at lw_m2 207 rfl) rfl
theorem q690 : (Jvm.Cond.instanceMethod ({ cls := "RiverGauge$Test", name := "<init>", desc := "()V" } : Jvm.MethodName)) ∈ lw_all := lw_g (lw_at lw_m3 120 rfl) rfl
theorem q691 : (Jvm.Cond.code ({ cls := "RiverGauge$Test", name := "<init>", desc := "()V" } : Jvm.MethodName) prog_23_method_1_code (1 : Nat) (Option.none : Option Jvm.ClassFile.FieldType)) ∈ lw_all := lw_g (lw_at lw_m3 121 rfl) rfl
theorem q692 : (Jvm.Cond.methodLinkNest "RiverGauge$Test" (1 : Nat) ({ cls := "RiverGauge$Part", name := "<init>", desc := "()V" } : Jvm.MethodName) "RiverGauge") ∈ lw_tbl := lw_at lw_m3 122 rfl

/-! RiverGauge$Not -/
set_option maxRecDepth 100000
def RX14 : String := "RiverGauge$Not"
def TX14 : u_T := fun k => match k with
  | _ => ("RiverGauge$Not", "test", "LRiverGauge$Test;", true)
def tyX14 : Nat → FieldType := fun k => match k with
  | _ => .object "RiverGauge$Test"
abbrev wsX140 : List Cond := u_ws RX14 TX14 1
theorem nmX14 : ∀ a, a < 1 → ∀ b, b < 1 → a ≠ b → (TX14 a).2.1 ≠ (TX14 b).2.1 := by decide +kernel
theorem tyX14_ok : ∀ k, k < 1 → parseFieldDescriptor (TX14 k).2.2.1 = some (tyX14 k) := by decide +kernel
abbrev cX14_holds : ByteArray := prog_13_method_2_code
def yX14_holds : MethodName := ⟨RX14, "holds", "([I)Z"⟩
abbrev cX14_init : ByteArray := prog_13_method_1_code
def yX14_init : MethodName := ⟨RX14, "<init>", "(LRiverGauge$Test;)V"⟩
theorem q110 : (Jvm.Cond.initialized "RiverGauge$Not") ∈ lw_all := lw_g (lw_at lw_m1 20 rfl) rfl
theorem q565 : (Jvm.Cond.instanceMethod ({ cls := "RiverGauge$Not", name := "holds", desc := "([I)Z" } : Jvm.MethodName)) ∈ lw_all := lw_g (lw_at lw_m2 235 rfl) rfl
theorem q566 : (Jvm.Cond.code ({ cls := "RiverGauge$Not", name := "holds", desc := "([I)Z" } : Jvm.MethodName) prog_13_method_2_code (2 : Nat) (Option.some Jvm.ClassFile.FieldType.boolean)) ∈ lw_all := lw_g (lw_at lw_m2 236 rfl) rfl
theorem q567 : (Jvm.Cond.methodLink "RiverGauge$Not" (13 : Nat) ({ cls := "RiverGauge$Test", name := "holds", desc := "([I)Z" } : Jvm.MethodName)) ∈ lw_all := lw_g (lw_at lw_m2 237 rfl) rfl
theorem q569 : (Jvm.Cond.selects "RiverGauge$Not" ({ cls := "RiverGauge$Test", name := "holds", desc := "([I)Z" } : Jvm.MethodName) ({ cls := "RiverGauge$Not", name := "holds", desc := "([I)Z" } : Jvm.MethodName)) ∈ lw_all := lw_g (lw_at lw_m2 239 rfl) rfl
theorem q685 : (Jvm.Cond.instantiable "RiverGauge$Not" (1 : Nat)) ∈ lw_all := lw_g (lw_at lw_m3 115 rfl) rfl
theorem q687 : (Jvm.Cond.instanceMethod ({ cls := "RiverGauge$Not", name := "<init>", desc := "(LRiverGauge$Test;)V" } : Jvm.MethodName)) ∈ lw_all := lw_g (lw_at lw_m3 117 rfl) rfl
theorem q688 : (Jvm.Cond.code ({ cls := "RiverGauge$Not", name := "<init>", desc := "(LRiverGauge$Test;)V" } : Jvm.MethodName) prog_13_method_1_code (2 : Nat) (Option.none : Option Jvm.ClassFile.FieldType)) ∈ lw_all := lw_g (lw_at lw_m3 118 rfl) rfl
theorem q689 : (Jvm.Cond.methodLinkNest "RiverGauge$Not" (1 : Nat) ({ cls := "RiverGauge$Test", name := "<init>", desc := "()V" } : Jvm.MethodName) "RiverGauge") ∈ lw_tbl := lw_at lw_m3 119 rfl
theorem q696 : (Jvm.Cond.fieldLink "RiverGauge$Not" (7 : Nat) "RiverGauge$Not" "test" "LRiverGauge$Test;") ∈ lw_all := lw_g (lw_at lw_m3 126 rfl) rfl
theorem q697 : (Jvm.Cond.laysFinal "RiverGauge$Not" "RiverGauge$Not" "test" "LRiverGauge$Test;") ∈ lw_all := lw_g (lw_at lw_m3 127 rfl) rfl
theorem q698 : (Jvm.Cond.soleField "RiverGauge$Not" "test") ∈ lw_all := lw_g (lw_at lw_m3 128 rfl) rfl
theorem q699 : (Jvm.Cond.superclass "RiverGauge$Not" "RiverGauge$Test") ∈ lw_all := lw_g (lw_at lw_m3 129 rfl) rfl
theorem in_X14 : ∀ w ∈ wsX140, w ∈ lw_all := lw_in wsX140 [697] (by decide +kernel) (by decide +kernel)

/-! java/lang/StringLatin1 -/
set_option maxRecDepth 100000
def RJ5 : String := "java/lang/StringLatin1"
abbrev cJ5_indexOf : ByteArray := prog_33_method_22_code
def yJ5_indexOf : MethodName := ⟨RJ5, "indexOf", "([BIII)I"⟩
abbrev cJ5_canEncode : ByteArray := prog_33_method_4_code
def yJ5_canEncode : MethodName := ⟨RJ5, "canEncode", "(I)Z"⟩
abbrev cJ5_indexOfChar : ByteArray := prog_33_method_23_code
def yJ5_indexOfChar : MethodName := ⟨RJ5, "indexOfChar", "([BIII)I"⟩
theorem q111 : (Jvm.Cond.initialized "java/lang/StringLatin1") ∈ lw_all := lw_g (lw_at lw_m1 21 rfl) rfl
theorem q727 : (Jvm.Cond.static ({ cls := "java/lang/StringLatin1", name := "indexOf", desc := "([BIII)I" } : Jvm.MethodName)) ∈ lw_all := lw_g (lw_at lw_m3 157 rfl) rfl
theorem q728 : (Jvm.Cond.code ({ cls := "java/lang/StringLatin1", name := "indexOf", desc := "([BIII)I" } : Jvm.MethodName) prog_33_method_22_code (4 : Nat) (Option.some Jvm.ClassFile.FieldType.int)) ∈ lw_all := lw_g (lw_at lw_m3 158 rfl) rfl
theorem q729 : (Jvm.Cond.methodLink "java/lang/StringLatin1" (88 : Nat) ({ cls := "java/lang/StringLatin1", name := "canEncode", desc := "(I)Z" } : Jvm.MethodName)) ∈ lw_all := lw_g (lw_at lw_m3 159 rfl) rfl
theorem q730 : (Jvm.Cond.static ({ cls := "java/lang/StringLatin1", name := "canEncode", desc := "(I)Z" } : Jvm.MethodName)) ∈ lw_all := lw_g (lw_at lw_m3 160 rfl) rfl
theorem q731 : (Jvm.Cond.code ({ cls := "java/lang/StringLatin1", name := "canEncode", desc := "(I)Z" } : Jvm.MethodName) prog_33_method_4_code (1 : Nat) (Option.some Jvm.ClassFile.FieldType.boolean)) ∈ lw_all := lw_g (lw_at lw_m3 161 rfl) rfl
theorem q732 : (Jvm.Cond.methodLink "java/lang/StringLatin1" (92 : Nat) ({ cls := "java/lang/Math", name := "max", desc := "(II)I" } : Jvm.MethodName)) ∈ lw_all := lw_g (lw_at lw_m3 162 rfl) rfl
theorem q735 : (Jvm.Cond.methodLink "java/lang/StringLatin1" (38 : Nat) ({ cls := "java/lang/Math", name := "min", desc := "(II)I" } : Jvm.MethodName)) ∈ lw_all := lw_g (lw_at lw_m3 165 rfl) rfl
theorem q738 : (Jvm.Cond.methodLink "java/lang/StringLatin1" (95 : Nat) ({ cls := "java/lang/StringLatin1", name := "indexOfChar", desc := "([BIII)I" } : Jvm.MethodName)) ∈ lw_all := lw_g (lw_at lw_m3 168 rfl) rfl
theorem q739 : (Jvm.Cond.static ({ cls := "java/lang/StringLatin1", name := "indexOfChar", desc := "([BIII)I" } : Jvm.MethodName)) ∈ lw_all := lw_g (lw_at lw_m3 169 rfl) rfl
theorem q740 : (Jvm.Cond.code ({ cls := "java/lang/StringLatin1", name := "indexOfChar", desc := "([BIII)I" } : Jvm.MethodName) prog_33_method_23_code (6 : Nat) (Option.some Jvm.ClassFile.FieldType.int)) ∈ lw_all := lw_g (lw_at lw_m3 170 rfl) rfl

/-! java/lang/StringUTF16 -/
set_option maxRecDepth 100000
def RJ6 : String := "java/lang/StringUTF16"
abbrev cJ6_indexOf : ByteArray := prog_34_method_40_code
def yJ6_indexOf : MethodName := ⟨RJ6, "indexOf", "([BIII)I"⟩
abbrev cJ6_indexOfChar : ByteArray := prog_34_method_47_code
def yJ6_indexOfChar : MethodName := ⟨RJ6, "indexOfChar", "([BIII)I"⟩
abbrev cJ6_checkBoundsBeginEnd : ByteArray := prog_34_method_93_code
def yJ6_checkBoundsBeginEnd : MethodName := ⟨RJ6, "checkBoundsBeginEnd", "(II[B)V"⟩
abbrev cJ6_length : ByteArray := prog_34_method_6_code
def yJ6_length : MethodName := ⟨RJ6, "length", "([B)I"⟩
abbrev cJ6_indexOfCharUnsafe : ByteArray := prog_34_method_48_code
def yJ6_indexOfCharUnsafe : MethodName := ⟨RJ6, "indexOfCharUnsafe", "([BIII)I"⟩
abbrev cJ6_getChar : ByteArray := prog_34_method_5_code
def yJ6_getChar : MethodName := ⟨RJ6, "getChar", "([BI)C"⟩
abbrev cJ6_indexOfSupplementary : ByteArray := prog_34_method_49_code
def yJ6_indexOfSupplementary : MethodName := ⟨RJ6, "indexOfSupplementary", "([BIII)I"⟩
theorem q112 : (Jvm.Cond.initialized "java/lang/StringUTF16") ∈ lw_all := lw_g (lw_at lw_m1 22 rfl) rfl
theorem q742 : (Jvm.Cond.static ({ cls := "java/lang/StringUTF16", name := "indexOf", desc := "([BIII)I" } : Jvm.MethodName)) ∈ lw_all := lw_g (lw_at lw_m3 172 rfl) rfl
theorem q743 : (Jvm.Cond.code ({ cls := "java/lang/StringUTF16", name := "indexOf", desc := "([BIII)I" } : Jvm.MethodName) prog_34_method_40_code (4 : Nat) (Option.some Jvm.ClassFile.FieldType.int)) ∈ lw_all := lw_g (lw_at lw_m3 173 rfl) rfl
theorem q744 : (Jvm.Cond.methodLink "java/lang/StringUTF16" (224 : Nat) ({ cls := "java/lang/Math", name := "max", desc := "(II)I" } : Jvm.MethodName)) ∈ lw_all := lw_g (lw_at lw_m3 174 rfl) rfl
theorem q745 : (Jvm.Cond.methodLink "java/lang/StringUTF16" (183 : Nat) ({ cls := "java/lang/Math", name := "min", desc := "(II)I" } : Jvm.MethodName)) ∈ lw_all := lw_g (lw_at lw_m3 175 rfl) rfl
theorem q746 : (Jvm.Cond.constant "java/lang/StringUTF16" (227 : Nat) (65536 : Int32)) ∈ lw_all := lw_g (lw_at lw_m3 176 rfl) rfl
theorem q747 : (Jvm.Cond.methodLink "java/lang/StringUTF16" (228 : Nat) ({ cls := "java/lang/StringUTF16", name := "indexOfChar", desc := "([BIII)I" } : Jvm.MethodName)) ∈ lw_all := lw_g (lw_at lw_m3 177 rfl) rfl
theorem q748 : (Jvm.Cond.static ({ cls := "java/lang/StringUTF16", name := "indexOfChar", desc := "([BIII)I" } : Jvm.MethodName)) ∈ lw_all := lw_g (lw_at lw_m3 178 rfl) rfl
theorem q749 : (Jvm.Cond.code ({ cls := "java/lang/StringUTF16", name := "indexOfChar", desc := "([BIII)I" } : Jvm.MethodName) prog_34_method_47_code (4 : Nat) (Option.some Jvm.ClassFile.FieldType.int)) ∈ lw_all := lw_g (lw_at lw_m3 179 rfl) rfl
theorem q750 : (Jvm.Cond.methodLink "java/lang/StringUTF16" (96 : Nat) ({ cls := "java/lang/StringUTF16", name := "checkBoundsBeginEnd", desc := "(II[B)V" } : Jvm.MethodName)) ∈ lw_all := lw_g (lw_at lw_m3 180 rfl) rfl
theorem q751 : (Jvm.Cond.static ({ cls := "java/lang/StringUTF16", name := "checkBoundsBeginEnd", desc := "(II[B)V" } : Jvm.MethodName)) ∈ lw_all := lw_g (lw_at lw_m3 181 rfl) rfl
theorem q752 : (Jvm.Cond.code ({ cls := "java/lang/StringUTF16", name := "checkBoundsBeginEnd", desc := "(II[B)V" } : Jvm.MethodName) prog_34_method_93_code (3 : Nat) (Option.none : Option Jvm.ClassFile.FieldType)) ∈ lw_all := lw_g (lw_at lw_m3 182 rfl) rfl
theorem q753 : (Jvm.Cond.methodLink "java/lang/StringUTF16" (48 : Nat) ({ cls := "java/lang/StringUTF16", name := "length", desc := "([B)I" } : Jvm.MethodName)) ∈ lw_all := lw_g (lw_at lw_m3 183 rfl) rfl
theorem q754 : (Jvm.Cond.static ({ cls := "java/lang/StringUTF16", name := "length", desc := "([B)I" } : Jvm.MethodName)) ∈ lw_all := lw_g (lw_at lw_m3 184 rfl) rfl
theorem q755 : (Jvm.Cond.code ({ cls := "java/lang/StringUTF16", name := "length", desc := "([B)I" } : Jvm.MethodName) prog_34_method_6_code (1 : Nat) (Option.some Jvm.ClassFile.FieldType.int)) ∈ lw_all := lw_g (lw_at lw_m3 185 rfl) rfl
theorem q756 : (Jvm.Cond.methodLink "java/lang/StringUTF16" (241 : Nat) ({ cls := "java/lang/String", name := "checkBoundsBeginEnd", desc := "(III)V" } : Jvm.MethodName)) ∈ lw_all := lw_g (lw_at lw_m3 186 rfl) rfl
theorem q764 : (Jvm.Cond.methodLink "java/lang/StringUTF16" (244 : Nat) ({ cls := "java/lang/StringUTF16", name := "indexOfCharUnsafe", desc := "([BIII)I" } : Jvm.MethodName)) ∈ lw_all := lw_g (lw_at lw_m3 194 rfl) rfl
theorem q765 : (Jvm.Cond.static ({ cls := "java/lang/StringUTF16", name := "indexOfCharUnsafe", desc := "([BIII)I" } : Jvm.MethodName)) ∈ lw_all := lw_g (lw_at lw_m3 195 rfl) rfl
theorem q766 : (Jvm.Cond.code ({ cls := "java/lang/StringUTF16", name := "indexOfCharUnsafe", desc := "([BIII)I" } : Jvm.MethodName) prog_34_method_48_code (5 : Nat) (Option.some Jvm.ClassFile.FieldType.int)) ∈ lw_all := lw_g (lw_at lw_m3 196 rfl) rfl
theorem q767 : (Jvm.Cond.methodLink "java/lang/StringUTF16" (71 : Nat) ({ cls := "java/lang/StringUTF16", name := "getChar", desc := "([BI)C" } : Jvm.MethodName)) ∈ lw_all := lw_g (lw_at lw_m3 197 rfl) rfl
theorem q768 : (Jvm.Cond.static ({ cls := "java/lang/StringUTF16", name := "getChar", desc := "([BI)C" } : Jvm.MethodName)) ∈ lw_all := lw_g (lw_at lw_m3 198 rfl) rfl
theorem q769 : (Jvm.Cond.code ({ cls := "java/lang/StringUTF16", name := "getChar", desc := "([BI)C" } : Jvm.MethodName) prog_34_method_5_code (2 : Nat) (Option.some Jvm.ClassFile.FieldType.char)) ∈ lw_all := lw_g (lw_at lw_m3 199 rfl) rfl
theorem q770 : (Jvm.Cond.fieldLink "java/lang/StringUTF16" (44 : Nat) "java/lang/StringUTF16" "$assertionsDisabled" "Z") ∈ lw_all := lw_g (lw_at lw_m3 200 rfl) rfl
theorem q771 : (Jvm.Cond.laysStatic "java/lang/StringUTF16" "$assertionsDisabled" "Z") ∈ lw_tbl := lw_at lw_m3 201 rfl
theorem q772 : (Jvm.Cond.fieldLink "java/lang/StringUTF16" (59 : Nat) "java/lang/StringUTF16" "HI_BYTE_SHIFT" "I") ∈ lw_all := lw_g (lw_at lw_m3 202 rfl) rfl
theorem q773 : (Jvm.Cond.laysStatic "java/lang/StringUTF16" "HI_BYTE_SHIFT" "I") ∈ lw_tbl := lw_at lw_m3 203 rfl
theorem q774 : (Jvm.Cond.fieldLink "java/lang/StringUTF16" (63 : Nat) "java/lang/StringUTF16" "LO_BYTE_SHIFT" "I") ∈ lw_all := lw_g (lw_at lw_m3 204 rfl) rfl
theorem q775 : (Jvm.Cond.laysStatic "java/lang/StringUTF16" "LO_BYTE_SHIFT" "I") ∈ lw_tbl := lw_at lw_m3 205 rfl
theorem q776 : (Jvm.Cond.methodLink "java/lang/StringUTF16" (232 : Nat) ({ cls := "java/lang/StringUTF16", name := "indexOfSupplementary", desc := "([BIII)I" } : Jvm.MethodName)) ∈ lw_all := lw_g (lw_at lw_m3 206 rfl) rfl
theorem q777 : (Jvm.Cond.static ({ cls := "java/lang/StringUTF16", name := "indexOfSupplementary", desc := "([BIII)I" } : Jvm.MethodName)) ∈ lw_all := lw_g (lw_at lw_m3 207 rfl) rfl
theorem q778 : (Jvm.Cond.code ({ cls := "java/lang/StringUTF16", name := "indexOfSupplementary", desc := "([BIII)I" } : Jvm.MethodName) prog_34_method_49_code (7 : Nat) (Option.some Jvm.ClassFile.FieldType.int)) ∈ lw_all := lw_g (lw_at lw_m3 208 rfl) rfl
theorem q779 : (Jvm.Cond.methodLink "java/lang/StringUTF16" (164 : Nat) ({ cls := "java/lang/Character", name := "isValidCodePoint", desc := "(I)Z" } : Jvm.MethodName)) ∈ lw_all := lw_g (lw_at lw_m3 209 rfl) rfl
theorem q782 : (Jvm.Cond.methodLink "java/lang/StringUTF16" (157 : Nat) ({ cls := "java/lang/Character", name := "highSurrogate", desc := "(I)C" } : Jvm.MethodName)) ∈ lw_all := lw_g (lw_at lw_m3 212 rfl) rfl
theorem q786 : (Jvm.Cond.methodLink "java/lang/StringUTF16" (161 : Nat) ({ cls := "java/lang/Character", name := "lowSurrogate", desc := "(I)C" } : Jvm.MethodName)) ∈ lw_all := lw_g (lw_at lw_m3 216 rfl) rfl

/-! jdk/internal/util/Preconditions -/
set_option maxRecDepth 100000
def RJ7 : String := "jdk/internal/util/Preconditions"
abbrev cJ7_checkFromToIndex : ByteArray := prog_36_method_12_code
def yJ7_checkFromToIndex : MethodName := ⟨RJ7, "checkFromToIndex", "(IIILjava/util/function/BiFunction;)I"⟩
theorem q113 : (Jvm.Cond.initialized "jdk/internal/util/Preconditions") ∈ lw_all := lw_g (lw_at lw_m1 23 rfl) rfl
theorem q760 : (Jvm.Cond.laysStatic "jdk/internal/util/Preconditions" "SIOOBE_FORMATTER" "Ljava/util/function/BiFunction;") ∈ lw_tbl := lw_at lw_m3 190 rfl
theorem q762 : (Jvm.Cond.static ({ cls := "jdk/internal/util/Preconditions", name := "checkFromToIndex", desc := "(IIILjava/util/function/BiFunction;)I" } : Jvm.MethodName)) ∈ lw_all := lw_g (lw_at lw_m3 192 rfl) rfl
theorem q763 : (Jvm.Cond.code ({ cls := "jdk/internal/util/Preconditions", name := "checkFromToIndex", desc := "(IIILjava/util/function/BiFunction;)I" } : Jvm.MethodName) prog_36_method_12_code (4 : Nat) (Option.some Jvm.ClassFile.FieldType.int)) ∈ lw_all := lw_g (lw_at lw_m3 193 rfl) rfl

/-! java/lang/Character -/
set_option maxRecDepth 100000
def RJ8 : String := "java/lang/Character"
abbrev cJ8_isValidCodePoint : ByteArray := prog_28_method_11_code
def yJ8_isValidCodePoint : MethodName := ⟨RJ8, "isValidCodePoint", "(I)Z"⟩
abbrev cJ8_highSurrogate : ByteArray := prog_28_method_28_code
def yJ8_highSurrogate : MethodName := ⟨RJ8, "highSurrogate", "(I)C"⟩
abbrev cJ8_lowSurrogate : ByteArray := prog_28_method_29_code
def yJ8_lowSurrogate : MethodName := ⟨RJ8, "lowSurrogate", "(I)C"⟩
theorem q114 : (Jvm.Cond.initialized "java/lang/Character") ∈ lw_all := lw_g (lw_at lw_m1 24 rfl) rfl
theorem q780 : (Jvm.Cond.static ({ cls := "java/lang/Character", name := "isValidCodePoint", desc := "(I)Z" } : Jvm.MethodName)) ∈ lw_all := lw_g (lw_at lw_m3 210 rfl) rfl
theorem q781 : (Jvm.Cond.code ({ cls := "java/lang/Character", name := "isValidCodePoint", desc := "(I)Z" } : Jvm.MethodName) prog_28_method_11_code (2 : Nat) (Option.some Jvm.ClassFile.FieldType.boolean)) ∈ lw_all := lw_g (lw_at lw_m3 211 rfl) rfl
theorem q783 : (Jvm.Cond.static ({ cls := "java/lang/Character", name := "highSurrogate", desc := "(I)C" } : Jvm.MethodName)) ∈ lw_all := lw_g (lw_at lw_m3 213 rfl) rfl
theorem q784 : (Jvm.Cond.code ({ cls := "java/lang/Character", name := "highSurrogate", desc := "(I)C" } : Jvm.MethodName) prog_28_method_28_code (1 : Nat) (Option.some Jvm.ClassFile.FieldType.char)) ∈ lw_all := lw_g (lw_at lw_m3 214 rfl) rfl
theorem q785 : (Jvm.Cond.constant "java/lang/Character" (110 : Nat) (55232 : Int32)) ∈ lw_all := lw_g (lw_at lw_m3 215 rfl) rfl
theorem q787 : (Jvm.Cond.static ({ cls := "java/lang/Character", name := "lowSurrogate", desc := "(I)C" } : Jvm.MethodName)) ∈ lw_all := lw_g (lw_at lw_m3 217 rfl) rfl
theorem q788 : (Jvm.Cond.code ({ cls := "java/lang/Character", name := "lowSurrogate", desc := "(I)C" } : Jvm.MethodName) prog_28_method_29_code (1 : Nat) (Option.some Jvm.ClassFile.FieldType.char)) ∈ lw_all := lw_g (lw_at lw_m3 218 rfl) rfl
theorem q789 : (Jvm.Cond.constant "java/lang/Character" (76 : Nat) (56320 : Int32)) ∈ lw_all := lw_g (lw_at lw_m3 219 rfl) rfl

/-! RiverGauge$Sum -/
set_option maxRecDepth 100000
def RX15 : String := "RiverGauge$Sum"
abbrev cX15_init : ByteArray := prog_22_method_1_code
def yX15_init : MethodName := ⟨RX15, "<init>", "()V"⟩
theorem q115 : (Jvm.Cond.initialized "RiverGauge$Sum") ∈ lw_all := lw_g (lw_at lw_m1 25 rfl) rfl
theorem q545 : (Jvm.Cond.declares ({ cls := "RiverGauge$Sum", name := "worth", desc := "([I)I" } : Jvm.MethodName)) ∈ lw_tbl := lw_at lw_m2 215 rfl
theorem q546 : (Jvm.Cond.sameMethod "RiverGauge$Sum" "RiverGauge$Sum" "worth" "([I)I") ∈ lw_all := lw_g (lw_at lw_m2 216 rfl) rfl
theorem q796 : (Jvm.Cond.instanceMethod ({ cls := "RiverGauge$Sum", name := "<init>", desc := "()V" } : Jvm.MethodName)) ∈ lw_all := lw_g (lw_at lw_m3 226 rfl) rfl
theorem q797 : (Jvm.Cond.code ({ cls := "RiverGauge$Sum", name := "<init>", desc := "()V" } : Jvm.MethodName) prog_22_method_1_code (1 : Nat) (Option.none : Option Jvm.ClassFile.FieldType)) ∈ lw_all := lw_g (lw_at lw_m3 227 rfl) rfl
theorem q798 : (Jvm.Cond.methodLinkNest "RiverGauge$Sum" (1 : Nat) ({ cls := "RiverGauge$Part", name := "<init>", desc := "()V" } : Jvm.MethodName) "RiverGauge") ∈ lw_tbl := lw_at lw_m3 228 rfl

/-! RiverGauge$Letter -/
set_option maxRecDepth 100000
def RX16 : String := "RiverGauge$Letter"
def TX16 : u_T := fun k => match k with
  | _ => ("RiverGauge$Letter", "letter", "I", true)
def tyX16 : Nat → FieldType := fun k => match k with
  | _ => .int
abbrev wsX160 : List Cond := u_ws RX16 TX16 1
theorem nmX16 : ∀ a, a < 1 → ∀ b, b < 1 → a ≠ b → (TX16 a).2.1 ≠ (TX16 b).2.1 := by decide +kernel
theorem tyX16_ok : ∀ k, k < 1 → parseFieldDescriptor (TX16 k).2.2.1 = some (tyX16 k) := by decide +kernel
abbrev cX16_worth : ByteArray := prog_11_method_2_code
def yX16_worth : MethodName := ⟨RX16, "worth", "([I)I"⟩
abbrev cX16_init : ByteArray := prog_11_method_1_code
def yX16_init : MethodName := ⟨RX16, "<init>", "(I)V"⟩
theorem q116 : (Jvm.Cond.initialized "RiverGauge$Letter") ∈ lw_all := lw_g (lw_at lw_m1 26 rfl) rfl
theorem q551 : (Jvm.Cond.instanceMethod ({ cls := "RiverGauge$Letter", name := "worth", desc := "([I)I" } : Jvm.MethodName)) ∈ lw_all := lw_g (lw_at lw_m2 221 rfl) rfl
theorem q552 : (Jvm.Cond.code ({ cls := "RiverGauge$Letter", name := "worth", desc := "([I)I" } : Jvm.MethodName) prog_11_method_2_code (2 : Nat) (Option.some Jvm.ClassFile.FieldType.int)) ∈ lw_all := lw_g (lw_at lw_m2 222 rfl) rfl
theorem q563 : (Jvm.Cond.selects "RiverGauge$Letter" ({ cls := "RiverGauge$Sum", name := "worth", desc := "([I)I" } : Jvm.MethodName) ({ cls := "RiverGauge$Letter", name := "worth", desc := "([I)I" } : Jvm.MethodName)) ∈ lw_all := lw_g (lw_at lw_m2 233 rfl) rfl
theorem q791 : (Jvm.Cond.instantiable "RiverGauge$Letter" (1 : Nat)) ∈ lw_all := lw_g (lw_at lw_m3 221 rfl) rfl
theorem q793 : (Jvm.Cond.instanceMethod ({ cls := "RiverGauge$Letter", name := "<init>", desc := "(I)V" } : Jvm.MethodName)) ∈ lw_all := lw_g (lw_at lw_m3 223 rfl) rfl
theorem q794 : (Jvm.Cond.code ({ cls := "RiverGauge$Letter", name := "<init>", desc := "(I)V" } : Jvm.MethodName) prog_11_method_1_code (2 : Nat) (Option.none : Option Jvm.ClassFile.FieldType)) ∈ lw_all := lw_g (lw_at lw_m3 224 rfl) rfl
theorem q795 : (Jvm.Cond.methodLinkNest "RiverGauge$Letter" (1 : Nat) ({ cls := "RiverGauge$Sum", name := "<init>", desc := "()V" } : Jvm.MethodName) "RiverGauge") ∈ lw_tbl := lw_at lw_m3 225 rfl
theorem q799 : (Jvm.Cond.fieldLink "RiverGauge$Letter" (7 : Nat) "RiverGauge$Letter" "letter" "I") ∈ lw_all := lw_g (lw_at lw_m3 229 rfl) rfl
theorem q800 : (Jvm.Cond.laysFinal "RiverGauge$Letter" "RiverGauge$Letter" "letter" "I") ∈ lw_all := lw_g (lw_at lw_m3 230 rfl) rfl
theorem q801 : (Jvm.Cond.soleField "RiverGauge$Letter" "letter") ∈ lw_all := lw_g (lw_at lw_m3 231 rfl) rfl
theorem q802 : (Jvm.Cond.superclass "RiverGauge$Letter" "RiverGauge$Sum") ∈ lw_all := lw_g (lw_at lw_m3 232 rfl) rfl
theorem in_X16 : ∀ w ∈ wsX160, w ∈ lw_all := lw_in wsX160 [800] (by decide +kernel) (by decide +kernel)

/-! RiverGauge$Plain -/
set_option maxRecDepth 100000
def RX17 : String := "RiverGauge$Plain"
def TX17 : u_T := fun k => match k with
  | _ => ("RiverGauge$Plain", "value", "I", true)
def tyX17 : Nat → FieldType := fun k => match k with
  | _ => .int
abbrev wsX170 : List Cond := u_ws RX17 TX17 1
theorem nmX17 : ∀ a, a < 1 → ∀ b, b < 1 → a ≠ b → (TX17 a).2.1 ≠ (TX17 b).2.1 := by decide +kernel
theorem tyX17_ok : ∀ k, k < 1 → parseFieldDescriptor (TX17 k).2.2.1 = some (tyX17 k) := by decide +kernel
abbrev cX17_worth : ByteArray := prog_15_method_2_code
def yX17_worth : MethodName := ⟨RX17, "worth", "([I)I"⟩
abbrev cX17_init : ByteArray := prog_15_method_1_code
def yX17_init : MethodName := ⟨RX17, "<init>", "(I)V"⟩
theorem q117 : (Jvm.Cond.initialized "RiverGauge$Plain") ∈ lw_all := lw_g (lw_at lw_m1 27 rfl) rfl
theorem q553 : (Jvm.Cond.instanceMethod ({ cls := "RiverGauge$Plain", name := "worth", desc := "([I)I" } : Jvm.MethodName)) ∈ lw_all := lw_g (lw_at lw_m2 223 rfl) rfl
theorem q554 : (Jvm.Cond.code ({ cls := "RiverGauge$Plain", name := "worth", desc := "([I)I" } : Jvm.MethodName) prog_15_method_2_code (2 : Nat) (Option.some Jvm.ClassFile.FieldType.int)) ∈ lw_all := lw_g (lw_at lw_m2 224 rfl) rfl
theorem q564 : (Jvm.Cond.selects "RiverGauge$Plain" ({ cls := "RiverGauge$Sum", name := "worth", desc := "([I)I" } : Jvm.MethodName) ({ cls := "RiverGauge$Plain", name := "worth", desc := "([I)I" } : Jvm.MethodName)) ∈ lw_all := lw_g (lw_at lw_m2 234 rfl) rfl
theorem q807 : (Jvm.Cond.instantiable "RiverGauge$Plain" (1 : Nat)) ∈ lw_all := lw_g (lw_at lw_m3 237 rfl) rfl
theorem q809 : (Jvm.Cond.instanceMethod ({ cls := "RiverGauge$Plain", name := "<init>", desc := "(I)V" } : Jvm.MethodName)) ∈ lw_all := lw_g (lw_at lw_m3 239 rfl) rfl
theorem q810 : (Jvm.Cond.code ({ cls := "RiverGauge$Plain", name := "<init>", desc := "(I)V" } : Jvm.MethodName) prog_15_method_1_code (2 : Nat) (Option.none : Option Jvm.ClassFile.FieldType)) ∈ lw_all := lw_g (lw_at lw_m4 0 rfl) rfl
theorem q811 : (Jvm.Cond.methodLinkNest "RiverGauge$Plain" (1 : Nat) ({ cls := "RiverGauge$Sum", name := "<init>", desc := "()V" } : Jvm.MethodName) "RiverGauge") ∈ lw_tbl := lw_at lw_m4 1 rfl
theorem q812 : (Jvm.Cond.fieldLink "RiverGauge$Plain" (7 : Nat) "RiverGauge$Plain" "value" "I") ∈ lw_all := lw_g (lw_at lw_m4 2 rfl) rfl
theorem q813 : (Jvm.Cond.laysFinal "RiverGauge$Plain" "RiverGauge$Plain" "value" "I") ∈ lw_all := lw_g (lw_at lw_m4 3 rfl) rfl
theorem q814 : (Jvm.Cond.soleField "RiverGauge$Plain" "value") ∈ lw_all := lw_g (lw_at lw_m4 4 rfl) rfl
theorem q815 : (Jvm.Cond.superclass "RiverGauge$Plain" "RiverGauge$Sum") ∈ lw_all := lw_g (lw_at lw_m4 5 rfl) rfl
theorem in_X17 : ∀ w ∈ wsX170, w ∈ lw_all := lw_in wsX170 [813] (by decide +kernel) (by decide +kernel)

/-! RiverGauge$Joined -/
set_option maxRecDepth 100000
def RX18 : String := "RiverGauge$Joined"
def TX18 : u_T := fun k => match k with
  | 0 => ("RiverGauge$Joined", "left", "LRiverGauge$Sum;", true)
  | 1 => ("RiverGauge$Joined", "right", "LRiverGauge$Sum;", true)
  | _ => ("RiverGauge$Joined", "sign", "I", true)
def tyX18 : Nat → FieldType := fun k => match k with
  | 0 => .object "RiverGauge$Sum"
  | 1 => .object "RiverGauge$Sum"
  | _ => .int
abbrev wsX180 : List Cond := u_ws RX18 TX18 3
theorem nmX18 : ∀ a, a < 3 → ∀ b, b < 3 → a ≠ b → (TX18 a).2.1 ≠ (TX18 b).2.1 := by decide +kernel
theorem tyX18_ok : ∀ k, k < 3 → parseFieldDescriptor (TX18 k).2.2.1 = some (tyX18 k) := by decide +kernel
abbrev cX18_worth : ByteArray := prog_10_method_2_code
def yX18_worth : MethodName := ⟨RX18, "worth", "([I)I"⟩
abbrev cX18_init : ByteArray := prog_10_method_1_code
def yX18_init : MethodName := ⟨RX18, "<init>", "(LRiverGauge$Sum;LRiverGauge$Sum;I)V"⟩
theorem q118 : (Jvm.Cond.initialized "RiverGauge$Joined") ∈ lw_all := lw_g (lw_at lw_m1 28 rfl) rfl
theorem q547 : (Jvm.Cond.selects "RiverGauge$Joined" ({ cls := "RiverGauge$Sum", name := "worth", desc := "([I)I" } : Jvm.MethodName) ({ cls := "RiverGauge$Joined", name := "worth", desc := "([I)I" } : Jvm.MethodName)) ∈ lw_all := lw_g (lw_at lw_m2 217 rfl) rfl
theorem q548 : (Jvm.Cond.instanceMethod ({ cls := "RiverGauge$Joined", name := "worth", desc := "([I)I" } : Jvm.MethodName)) ∈ lw_all := lw_g (lw_at lw_m2 218 rfl) rfl
theorem q549 : (Jvm.Cond.code ({ cls := "RiverGauge$Joined", name := "worth", desc := "([I)I" } : Jvm.MethodName) prog_10_method_2_code (8 : Nat) (Option.some Jvm.ClassFile.FieldType.int)) ∈ lw_all := lw_g (lw_at lw_m2 219 rfl) rfl
theorem q550 : (Jvm.Cond.methodLink "RiverGauge$Joined" (22 : Nat) ({ cls := "RiverGauge$Sum", name := "worth", desc := "([I)I" } : Jvm.MethodName)) ∈ lw_all := lw_g (lw_at lw_m2 220 rfl) rfl
theorem q555 : (Jvm.Cond.constantLong "RiverGauge$Joined" (26 : Nat) (-1000000000 : Int64)) ∈ lw_all := lw_g (lw_at lw_m2 225 rfl) rfl
theorem q556 : (Jvm.Cond.constantLong "RiverGauge$Joined" (28 : Nat) (1000000000 : Int64)) ∈ lw_all := lw_g (lw_at lw_m2 226 rfl) rfl
theorem q557 : (Jvm.Cond.methodLink "RiverGauge$Joined" (30 : Nat) ({ cls := "java/lang/Math", name := "min", desc := "(JJ)J" } : Jvm.MethodName)) ∈ lw_all := lw_g (lw_at lw_m2 227 rfl) rfl
theorem q560 : (Jvm.Cond.methodLink "RiverGauge$Joined" (36 : Nat) ({ cls := "java/lang/Math", name := "max", desc := "(JJ)J" } : Jvm.MethodName)) ∈ lw_all := lw_g (lw_at lw_m2 230 rfl) rfl
theorem q817 : (Jvm.Cond.instantiable "RiverGauge$Joined" (3 : Nat)) ∈ lw_all := lw_g (lw_at lw_m4 7 rfl) rfl
theorem q819 : (Jvm.Cond.instanceMethod ({ cls := "RiverGauge$Joined", name := "<init>", desc := "(LRiverGauge$Sum;LRiverGauge$Sum;I)V" } : Jvm.MethodName)) ∈ lw_all := lw_g (lw_at lw_m4 9 rfl) rfl
theorem q820 : (Jvm.Cond.code ({ cls := "RiverGauge$Joined", name := "<init>", desc := "(LRiverGauge$Sum;LRiverGauge$Sum;I)V" } : Jvm.MethodName) prog_10_method_1_code (4 : Nat) (Option.none : Option Jvm.ClassFile.FieldType)) ∈ lw_all := lw_g (lw_at lw_m4 10 rfl) rfl
theorem q821 : (Jvm.Cond.methodLinkNest "RiverGauge$Joined" (3 : Nat) ({ cls := "RiverGauge$Sum", name := "<init>", desc := "()V" } : Jvm.MethodName) "RiverGauge") ∈ lw_tbl := lw_at lw_m4 11 rfl
theorem q822 : (Jvm.Cond.fieldLink "RiverGauge$Joined" (9 : Nat) "RiverGauge$Joined" "left" "LRiverGauge$Sum;") ∈ lw_all := lw_g (lw_at lw_m4 12 rfl) rfl
theorem q823 : (Jvm.Cond.fieldLink "RiverGauge$Joined" (15 : Nat) "RiverGauge$Joined" "right" "LRiverGauge$Sum;") ∈ lw_all := lw_g (lw_at lw_m4 13 rfl) rfl
theorem q824 : (Jvm.Cond.fieldLink "RiverGauge$Joined" (18 : Nat) "RiverGauge$Joined" "sign" "I") ∈ lw_all := lw_g (lw_at lw_m4 14 rfl) rfl
theorem q825 : (Jvm.Cond.laysFinal "RiverGauge$Joined" "RiverGauge$Joined" "left" "LRiverGauge$Sum;") ∈ lw_all := lw_g (lw_at lw_m4 15 rfl) rfl
theorem q826 : (Jvm.Cond.soleField "RiverGauge$Joined" "left") ∈ lw_all := lw_g (lw_at lw_m4 16 rfl) rfl
theorem q827 : (Jvm.Cond.laysFinal "RiverGauge$Joined" "RiverGauge$Joined" "right" "LRiverGauge$Sum;") ∈ lw_all := lw_g (lw_at lw_m4 17 rfl) rfl
theorem q828 : (Jvm.Cond.soleField "RiverGauge$Joined" "right") ∈ lw_all := lw_g (lw_at lw_m4 18 rfl) rfl
theorem q829 : (Jvm.Cond.laysFinal "RiverGauge$Joined" "RiverGauge$Joined" "sign" "I") ∈ lw_all := lw_g (lw_at lw_m4 19 rfl) rfl
theorem q830 : (Jvm.Cond.soleField "RiverGauge$Joined" "sign") ∈ lw_all := lw_g (lw_at lw_m4 20 rfl) rfl
theorem q831 : (Jvm.Cond.superclass "RiverGauge$Joined" "RiverGauge$Sum") ∈ lw_all := lw_g (lw_at lw_m4 21 rfl) rfl
theorem in_X18 : ∀ w ∈ wsX180, w ∈ lw_all := lw_in wsX180 [825, 827, 829] (by decide +kernel) (by decide +kernel)

/-! RiverGauge$Compare -/
set_option maxRecDepth 100000
def RX19 : String := "RiverGauge$Compare"
def TX19 : u_T := fun k => match k with
  | 0 => ("RiverGauge$Compare", "left", "LRiverGauge$Sum;", true)
  | 1 => ("RiverGauge$Compare", "right", "LRiverGauge$Sum;", true)
  | _ => ("RiverGauge$Compare", "sign", "I", true)
def tyX19 : Nat → FieldType := fun k => match k with
  | 0 => .object "RiverGauge$Sum"
  | 1 => .object "RiverGauge$Sum"
  | _ => .int
abbrev wsX190 : List Cond := u_ws RX19 TX19 3
theorem nmX19 : ∀ a, a < 3 → ∀ b, b < 3 → a ≠ b → (TX19 a).2.1 ≠ (TX19 b).2.1 := by decide +kernel
theorem tyX19_ok : ∀ k, k < 3 → parseFieldDescriptor (TX19 k).2.2.1 = some (tyX19 k) := by decide +kernel
abbrev cX19_holds : ByteArray := prog_5_method_2_code
def yX19_holds : MethodName := ⟨RX19, "holds", "([I)Z"⟩
abbrev cX19_init : ByteArray := prog_5_method_1_code
def yX19_init : MethodName := ⟨RX19, "<init>", "(LRiverGauge$Sum;LRiverGauge$Sum;I)V"⟩
theorem q119 : (Jvm.Cond.initialized "RiverGauge$Compare") ∈ lw_all := lw_g (lw_at lw_m1 29 rfl) rfl
theorem q542 : (Jvm.Cond.instanceMethod ({ cls := "RiverGauge$Compare", name := "holds", desc := "([I)Z" } : Jvm.MethodName)) ∈ lw_all := lw_g (lw_at lw_m2 212 rfl) rfl
theorem q543 : (Jvm.Cond.code ({ cls := "RiverGauge$Compare", name := "holds", desc := "([I)Z" } : Jvm.MethodName) prog_5_method_2_code (4 : Nat) (Option.some Jvm.ClassFile.FieldType.boolean)) ∈ lw_all := lw_g (lw_at lw_m2 213 rfl) rfl
theorem q544 : (Jvm.Cond.methodLink "RiverGauge$Compare" (20 : Nat) ({ cls := "RiverGauge$Sum", name := "worth", desc := "([I)I" } : Jvm.MethodName)) ∈ lw_all := lw_g (lw_at lw_m2 214 rfl) rfl
theorem q568 : (Jvm.Cond.selects "RiverGauge$Compare" ({ cls := "RiverGauge$Test", name := "holds", desc := "([I)Z" } : Jvm.MethodName) ({ cls := "RiverGauge$Compare", name := "holds", desc := "([I)Z" } : Jvm.MethodName)) ∈ lw_all := lw_g (lw_at lw_m2 238 rfl) rfl
theorem q833 : (Jvm.Cond.instantiable "RiverGauge$Compare" (3 : Nat)) ∈ lw_all := lw_g (lw_at lw_m4 23 rfl) rfl
theorem q835 : (Jvm.Cond.instanceMethod ({ cls := "RiverGauge$Compare", name := "<init>", desc := "(LRiverGauge$Sum;LRiverGauge$Sum;I)V" } : Jvm.MethodName)) ∈ lw_all := lw_g (lw_at lw_m4 25 rfl) rfl
theorem q836 : (Jvm.Cond.code ({ cls := "RiverGauge$Compare", name := "<init>", desc := "(LRiverGauge$Sum;LRiverGauge$Sum;I)V" } : Jvm.MethodName) prog_5_method_1_code (4 : Nat) (Option.none : Option Jvm.ClassFile.FieldType)) ∈ lw_all := lw_g (lw_at lw_m4 26 rfl) rfl
theorem q837 : (Jvm.Cond.methodLinkNest "RiverGauge$Compare" (1 : Nat) ({ cls := "RiverGauge$Test", name := "<init>", desc := "()V" } : Jvm.MethodName) "RiverGauge") ∈ lw_tbl := lw_at lw_m4 27 rfl
theorem q838 : (Jvm.Cond.fieldLink "RiverGauge$Compare" (7 : Nat) "RiverGauge$Compare" "left" "LRiverGauge$Sum;") ∈ lw_all := lw_g (lw_at lw_m4 28 rfl) rfl
theorem q839 : (Jvm.Cond.fieldLink "RiverGauge$Compare" (13 : Nat) "RiverGauge$Compare" "right" "LRiverGauge$Sum;") ∈ lw_all := lw_g (lw_at lw_m4 29 rfl) rfl
theorem q840 : (Jvm.Cond.fieldLink "RiverGauge$Compare" (16 : Nat) "RiverGauge$Compare" "sign" "I") ∈ lw_all := lw_g (lw_at lw_m4 30 rfl) rfl
theorem q841 : (Jvm.Cond.laysFinal "RiverGauge$Compare" "RiverGauge$Compare" "left" "LRiverGauge$Sum;") ∈ lw_all := lw_g (lw_at lw_m4 31 rfl) rfl
theorem q842 : (Jvm.Cond.soleField "RiverGauge$Compare" "left") ∈ lw_all := lw_g (lw_at lw_m4 32 rfl) rfl
theorem q843 : (Jvm.Cond.laysFinal "RiverGauge$Compare" "RiverGauge$Compare" "right" "LRiverGauge$Sum;") ∈ lw_all := lw_g (lw_at lw_m4 33 rfl) rfl
theorem q844 : (Jvm.Cond.soleField "RiverGauge$Compare" "right") ∈ lw_all := lw_g (lw_at lw_m4 34 rfl) rfl
theorem q845 : (Jvm.Cond.laysFinal "RiverGauge$Compare" "RiverGauge$Compare" "sign" "I") ∈ lw_all := lw_g (lw_at lw_m4 35 rfl) rfl
theorem q846 : (Jvm.Cond.soleField "RiverGauge$Compare" "sign") ∈ lw_all := lw_g (lw_at lw_m4 36 rfl) rfl
theorem q847 : (Jvm.Cond.superclass "RiverGauge$Compare" "RiverGauge$Test") ∈ lw_all := lw_g (lw_at lw_m4 37 rfl) rfl
theorem in_X19 : ∀ w ∈ wsX190, w ∈ lw_all := lw_in wsX190 [841, 843, 845] (by decide +kernel) (by decide +kernel)

/-! RiverGauge$Both -/
set_option maxRecDepth 100000
def RX20 : String := "RiverGauge$Both"
def TX20 : u_T := fun k => match k with
  | 0 => ("RiverGauge$Both", "left", "LRiverGauge$Test;", true)
  | 1 => ("RiverGauge$Both", "right", "LRiverGauge$Test;", true)
  | _ => ("RiverGauge$Both", "all", "Z", true)
def tyX20 : Nat → FieldType := fun k => match k with
  | 0 => .object "RiverGauge$Test"
  | 1 => .object "RiverGauge$Test"
  | _ => .boolean
abbrev wsX200 : List Cond := u_ws RX20 TX20 3
theorem nmX20 : ∀ a, a < 3 → ∀ b, b < 3 → a ≠ b → (TX20 a).2.1 ≠ (TX20 b).2.1 := by decide +kernel
theorem tyX20_ok : ∀ k, k < 3 → parseFieldDescriptor (TX20 k).2.2.1 = some (tyX20 k) := by decide +kernel
abbrev cX20_holds : ByteArray := prog_4_method_2_code
def yX20_holds : MethodName := ⟨RX20, "holds", "([I)Z"⟩
abbrev cX20_init : ByteArray := prog_4_method_1_code
def yX20_init : MethodName := ⟨RX20, "<init>", "(LRiverGauge$Test;LRiverGauge$Test;Z)V"⟩
theorem q120 : (Jvm.Cond.initialized "RiverGauge$Both") ∈ lw_all := lw_g (lw_at lw_m1 30 rfl) rfl
theorem q538 : (Jvm.Cond.selects "RiverGauge$Both" ({ cls := "RiverGauge$Test", name := "holds", desc := "([I)Z" } : Jvm.MethodName) ({ cls := "RiverGauge$Both", name := "holds", desc := "([I)Z" } : Jvm.MethodName)) ∈ lw_all := lw_g (lw_at lw_m2 208 rfl) rfl
theorem q539 : (Jvm.Cond.instanceMethod ({ cls := "RiverGauge$Both", name := "holds", desc := "([I)Z" } : Jvm.MethodName)) ∈ lw_all := lw_g (lw_at lw_m2 209 rfl) rfl
theorem q540 : (Jvm.Cond.code ({ cls := "RiverGauge$Both", name := "holds", desc := "([I)Z" } : Jvm.MethodName) prog_4_method_2_code (2 : Nat) (Option.some Jvm.ClassFile.FieldType.boolean)) ∈ lw_all := lw_g (lw_at lw_m2 210 rfl) rfl
theorem q541 : (Jvm.Cond.methodLink "RiverGauge$Both" (20 : Nat) ({ cls := "RiverGauge$Test", name := "holds", desc := "([I)Z" } : Jvm.MethodName)) ∈ lw_all := lw_g (lw_at lw_m2 211 rfl) rfl
theorem q849 : (Jvm.Cond.instantiable "RiverGauge$Both" (3 : Nat)) ∈ lw_all := lw_g (lw_at lw_m4 39 rfl) rfl
theorem q851 : (Jvm.Cond.instanceMethod ({ cls := "RiverGauge$Both", name := "<init>", desc := "(LRiverGauge$Test;LRiverGauge$Test;Z)V" } : Jvm.MethodName)) ∈ lw_all := lw_g (lw_at lw_m4 41 rfl) rfl
theorem q852 : (Jvm.Cond.code ({ cls := "RiverGauge$Both", name := "<init>", desc := "(LRiverGauge$Test;LRiverGauge$Test;Z)V" } : Jvm.MethodName) prog_4_method_1_code (4 : Nat) (Option.none : Option Jvm.ClassFile.FieldType)) ∈ lw_all := lw_g (lw_at lw_m4 42 rfl) rfl
theorem q853 : (Jvm.Cond.methodLinkNest "RiverGauge$Both" (1 : Nat) ({ cls := "RiverGauge$Test", name := "<init>", desc := "()V" } : Jvm.MethodName) "RiverGauge") ∈ lw_tbl := lw_at lw_m4 43 rfl
theorem q854 : (Jvm.Cond.fieldLink "RiverGauge$Both" (7 : Nat) "RiverGauge$Both" "left" "LRiverGauge$Test;") ∈ lw_all := lw_g (lw_at lw_m4 44 rfl) rfl
theorem q855 : (Jvm.Cond.fieldLink "RiverGauge$Both" (13 : Nat) "RiverGauge$Both" "right" "LRiverGauge$Test;") ∈ lw_all := lw_g (lw_at lw_m4 45 rfl) rfl
theorem q856 : (Jvm.Cond.fieldLink "RiverGauge$Both" (16 : Nat) "RiverGauge$Both" "all" "Z") ∈ lw_all := lw_g (lw_at lw_m4 46 rfl) rfl
theorem q857 : (Jvm.Cond.laysFinal "RiverGauge$Both" "RiverGauge$Both" "left" "LRiverGauge$Test;") ∈ lw_all := lw_g (lw_at lw_m4 47 rfl) rfl
theorem q858 : (Jvm.Cond.soleField "RiverGauge$Both" "left") ∈ lw_all := lw_g (lw_at lw_m4 48 rfl) rfl
theorem q859 : (Jvm.Cond.laysFinal "RiverGauge$Both" "RiverGauge$Both" "right" "LRiverGauge$Test;") ∈ lw_all := lw_g (lw_at lw_m4 49 rfl) rfl
theorem q860 : (Jvm.Cond.soleField "RiverGauge$Both" "right") ∈ lw_all := lw_g (lw_at lw_m4 50 rfl) rfl
theorem q861 : (Jvm.Cond.laysFinal "RiverGauge$Both" "RiverGauge$Both" "all" "Z") ∈ lw_all := lw_g (lw_at lw_m4 51 rfl) rfl
theorem q862 : (Jvm.Cond.soleField "RiverGauge$Both" "all") ∈ lw_all := lw_g (lw_at lw_m4 52 rfl) rfl
theorem q863 : (Jvm.Cond.superclass "RiverGauge$Both" "RiverGauge$Test") ∈ lw_all := lw_g (lw_at lw_m4 53 rfl) rfl
theorem in_X20 : ∀ w ∈ wsX200, w ∈ lw_all := lw_in wsX200 [857, 859, 861] (by decide +kernel) (by decide +kernel)

/-! RiverGauge$Line -/
set_option maxRecDepth 100000
def RX21 : String := "RiverGauge$Line"
abbrev cX21_init : ByteArray := prog_12_method_1_code
def yX21_init : MethodName := ⟨RX21, "<init>", "(I)V"⟩
abbrev cX21_at : ByteArray := prog_12_method_4_code
def yX21_at : MethodName := ⟨RX21, "at", "(I)J"⟩
abbrev cX21_ahead : ByteArray := prog_12_method_5_code
def yX21_ahead : MethodName := ⟨RX21, "ahead", "(I)J"⟩
abbrev cX21_isBeyond : ByteArray := prog_12_method_2_code
def yX21_isBeyond : MethodName := ⟨RX21, "isBeyond", "(I)Z"⟩
theorem q121 : (Jvm.Cond.initialized "RiverGauge$Line") ∈ lw_all := lw_g (lw_at lw_m1 31 rfl) rfl
theorem q906 : (Jvm.Cond.instanceMethod ({ cls := "RiverGauge$Line", name := "<init>", desc := "(I)V" } : Jvm.MethodName)) ∈ lw_all := lw_g (lw_at lw_m4 96 rfl) rfl
theorem q907 : (Jvm.Cond.code ({ cls := "RiverGauge$Line", name := "<init>", desc := "(I)V" } : Jvm.MethodName) prog_12_method_1_code (2 : Nat) (Option.none : Option Jvm.ClassFile.FieldType)) ∈ lw_all := lw_g (lw_at lw_m4 97 rfl) rfl
theorem q908 : (Jvm.Cond.methodLink "RiverGauge$Line" (3 : Nat) ({ cls := "java/lang/Object", name := "<init>", desc := "()V" } : Jvm.MethodName)) ∈ lw_all := lw_g (lw_at lw_m4 98 rfl) rfl
theorem q913 : (Jvm.Cond.fieldLink "RiverGauge$Line" (9 : Nat) "RiverGauge$Line" "heights" "[I") ∈ lw_all := lw_g (lw_at lw_m4 103 rfl) rfl
theorem q919 : (Jvm.Cond.fieldLink "RiverGauge$Line" (15 : Nat) "RiverGauge$Line" "flows" "[J") ∈ lw_all := lw_g (lw_at lw_m4 109 rfl) rfl
theorem q925 : (Jvm.Cond.fieldLink "RiverGauge$Line" (19 : Nat) "RiverGauge$Line" "many" "I") ∈ lw_all := lw_g (lw_at lw_m4 115 rfl) rfl
theorem q938 : (Jvm.Cond.soleField "RiverGauge$Line" "heights") ∈ lw_all := lw_g (lw_at lw_m4 128 rfl) rfl
theorem q940 : (Jvm.Cond.soleField "RiverGauge$Line" "flows") ∈ lw_all := lw_g (lw_at lw_m4 130 rfl) rfl
theorem q942 : (Jvm.Cond.soleField "RiverGauge$Line" "many") ∈ lw_all := lw_g (lw_at lw_m4 132 rfl) rfl
theorem q956 : (Jvm.Cond.declares ({ cls := "RiverGauge$Line", name := "at", desc := "(I)J" } : Jvm.MethodName)) ∈ lw_tbl := lw_at lw_m4 146 rfl
theorem q958 : (Jvm.Cond.instanceMethod ({ cls := "RiverGauge$Line", name := "at", desc := "(I)J" } : Jvm.MethodName)) ∈ lw_all := lw_g (lw_at lw_m4 148 rfl) rfl
theorem q959 : (Jvm.Cond.code ({ cls := "RiverGauge$Line", name := "at", desc := "(I)J" } : Jvm.MethodName) prog_12_method_4_code (6 : Nat) (Option.some Jvm.ClassFile.FieldType.long)) ∈ lw_all := lw_g (lw_at lw_m4 149 rfl) rfl
theorem q960 : (Jvm.Cond.methodLink "RiverGauge$Line" (23 : Nat) ({ cls := "RiverGauge$Line", name := "ahead", desc := "(I)J" } : Jvm.MethodName)) ∈ lw_all := lw_g (lw_at lw_m4 150 rfl) rfl
theorem q961 : (Jvm.Cond.privateMethod ({ cls := "RiverGauge$Line", name := "ahead", desc := "(I)J" } : Jvm.MethodName)) ∈ lw_tbl := lw_at lw_m4 151 rfl
theorem q962 : (Jvm.Cond.instanceMethod ({ cls := "RiverGauge$Line", name := "ahead", desc := "(I)J" } : Jvm.MethodName)) ∈ lw_all := lw_g (lw_at lw_m4 152 rfl) rfl
theorem q963 : (Jvm.Cond.code ({ cls := "RiverGauge$Line", name := "ahead", desc := "(I)J" } : Jvm.MethodName) prog_12_method_5_code (2 : Nat) (Option.some Jvm.ClassFile.FieldType.long)) ∈ lw_all := lw_g (lw_at lw_m4 153 rfl) rfl
theorem q964 : (Jvm.Cond.methodLink "RiverGauge$Line" (35 : Nat) ({ cls := "RiverGauge$Line", name := "low", desc := "()I" } : Jvm.MethodName)) ∈ lw_all := lw_g (lw_at lw_m4 154 rfl) rfl
theorem q965 : (Jvm.Cond.declares ({ cls := "RiverGauge$Line", name := "low", desc := "()I" } : Jvm.MethodName)) ∈ lw_tbl := lw_at lw_m4 155 rfl
theorem q966 : (Jvm.Cond.sameMethod "RiverGauge$Line" "RiverGauge$Line" "low" "()I") ∈ lw_all := lw_g (lw_at lw_m4 156 rfl) rfl
theorem q973 : (Jvm.Cond.constantLong "RiverGauge$Line" (27 : Nat) (99999999 : Int64)) ∈ lw_all := lw_g (lw_at lw_m4 163 rfl) rfl
theorem q974 : (Jvm.Cond.methodLink "RiverGauge$Line" (29 : Nat) ({ cls := "java/lang/Math", name := "min", desc := "(JJ)J" } : Jvm.MethodName)) ∈ lw_all := lw_g (lw_at lw_m4 164 rfl) rfl
theorem q1019 : (Jvm.Cond.declares ({ cls := "RiverGauge$Line", name := "isBeyond", desc := "(I)Z" } : Jvm.MethodName)) ∈ lw_tbl := lw_at lw_m4 209 rfl
theorem q1021 : (Jvm.Cond.instanceMethod ({ cls := "RiverGauge$Line", name := "isBeyond", desc := "(I)Z" } : Jvm.MethodName)) ∈ lw_all := lw_g (lw_at lw_m4 211 rfl) rfl
theorem q1022 : (Jvm.Cond.code ({ cls := "RiverGauge$Line", name := "isBeyond", desc := "(I)Z" } : Jvm.MethodName) prog_12_method_2_code (2 : Nat) (Option.some Jvm.ClassFile.FieldType.boolean)) ∈ lw_all := lw_g (lw_at lw_m4 212 rfl) rfl
theorem q1907 : (Jvm.Cond.sameMethod "RiverGauge$Line" "RiverGauge$Line" "ahead" "(I)J") ∈ lw_all := lw_g (lw_at lw_m8 137 rfl) rfl

/-! RiverGauge$Curve -/
set_option maxRecDepth 100000
def RX22 : String := "RiverGauge$Curve"
def TX22 : u_T := fun k => match k with
  | 0 => ("RiverGauge$Line", "heights", "[I", true)
  | 1 => ("RiverGauge$Line", "flows", "[J", true)
  | 2 => ("RiverGauge$Line", "many", "I", false)
  | 3 => ("RiverGauge$Curve", "low", "I", true)
  | 4 => ("RiverGauge$Curve", "wrong", "I", false)
  | _ => ("RiverGauge$Curve", "counts", "[I", true)
def tyX22 : Nat → FieldType := fun k => match k with
  | 0 => .array .int
  | 1 => .array .long
  | 2 => .int
  | 3 => .int
  | 4 => .int
  | _ => .array .int
abbrev wsX220 : List Cond := u_ws RX22 TX22 6
theorem nmX22 : ∀ a, a < 6 → ∀ b, b < 6 → a ≠ b → (TX22 a).2.1 ≠ (TX22 b).2.1 := by decide +kernel
theorem tyX22_ok : ∀ k, k < 6 → parseFieldDescriptor (TX22 k).2.2.1 = some (tyX22 k) := by decide +kernel
abbrev cX22_init : ByteArray := prog_7_method_1_code
def yX22_init : MethodName := ⟨RX22, "<init>", "(I)V"⟩
abbrev cX22_add : ByteArray := prog_7_method_3_code
def yX22_add : MethodName := ⟨RX22, "add", "(ILRiverGauge$Flow;)V"⟩
abbrev cX22_pool : ByteArray := prog_7_method_4_code
def yX22_pool : MethodName := ⟨RX22, "pool", "()V"⟩
abbrev cX22_low : ByteArray := prog_7_method_2_code
def yX22_low : MethodName := ⟨RX22, "low", "()I"⟩
theorem q122 : (Jvm.Cond.initialized "RiverGauge$Curve") ∈ lw_all := lw_g (lw_at lw_m1 32 rfl) rfl
theorem q585 : (Jvm.Cond.fieldLinkNest "RiverGauge$Curve" (41 : Nat) "RiverGauge$Flow" "flow" "I" "RiverGauge") ∈ lw_tbl := lw_at lw_m3 15 rfl
theorem q587 : (Jvm.Cond.fieldLinkNest "RiverGauge$Curve" (22 : Nat) "RiverGauge$Flow" "wrong" "I" "RiverGauge") ∈ lw_tbl := lw_at lw_m3 17 rfl
theorem q901 : (Jvm.Cond.instantiable "RiverGauge$Curve" (6 : Nat)) ∈ lw_all := lw_g (lw_at lw_m4 91 rfl) rfl
theorem q903 : (Jvm.Cond.instanceMethod ({ cls := "RiverGauge$Curve", name := "<init>", desc := "(I)V" } : Jvm.MethodName)) ∈ lw_all := lw_g (lw_at lw_m4 93 rfl) rfl
theorem q904 : (Jvm.Cond.code ({ cls := "RiverGauge$Curve", name := "<init>", desc := "(I)V" } : Jvm.MethodName) prog_7_method_1_code (2 : Nat) (Option.none : Option Jvm.ClassFile.FieldType)) ∈ lw_all := lw_g (lw_at lw_m4 94 rfl) rfl
theorem q905 : (Jvm.Cond.methodLink "RiverGauge$Curve" (3 : Nat) ({ cls := "RiverGauge$Line", name := "<init>", desc := "(I)V" } : Jvm.MethodName)) ∈ lw_all := lw_g (lw_at lw_m4 95 rfl) rfl
theorem q909 : (Jvm.Cond.fieldLink "RiverGauge$Curve" (15 : Nat) "RiverGauge$Curve" "low" "I") ∈ lw_all := lw_g (lw_at lw_m4 99 rfl) rfl
theorem q910 : (Jvm.Cond.fieldLink "RiverGauge$Curve" (19 : Nat) "RiverGauge$Curve" "wrong" "I") ∈ lw_all := lw_g (lw_at lw_m4 100 rfl) rfl
theorem q912 : (Jvm.Cond.fieldLink "RiverGauge$Curve" (9 : Nat) "RiverGauge$Curve" "counts" "[I") ∈ lw_all := lw_g (lw_at lw_m4 102 rfl) rfl
theorem q914 : (Jvm.Cond.fieldLink "RiverGauge$Curve" (34 : Nat) "RiverGauge$Curve" "heights" "[I") ∈ lw_all := lw_g (lw_at lw_m4 104 rfl) rfl
theorem q915 : (Jvm.Cond.sameField "RiverGauge$Curve" "RiverGauge$Line" "heights" "[I") ∈ lw_all := lw_g (lw_at lw_m4 105 rfl) rfl
theorem q920 : (Jvm.Cond.fieldLink "RiverGauge$Curve" (37 : Nat) "RiverGauge$Curve" "flows" "[J") ∈ lw_all := lw_g (lw_at lw_m4 110 rfl) rfl
theorem q921 : (Jvm.Cond.sameField "RiverGauge$Curve" "RiverGauge$Line" "flows" "[J") ∈ lw_all := lw_g (lw_at lw_m4 111 rfl) rfl
theorem q926 : (Jvm.Cond.fieldLink "RiverGauge$Curve" (31 : Nat) "RiverGauge$Curve" "many" "I") ∈ lw_all := lw_g (lw_at lw_m4 116 rfl) rfl
theorem q927 : (Jvm.Cond.sameField "RiverGauge$Curve" "RiverGauge$Line" "many" "I") ∈ lw_all := lw_g (lw_at lw_m4 117 rfl) rfl
theorem q931 : (Jvm.Cond.laysFinal "RiverGauge$Curve" "RiverGauge$Curve" "low" "I") ∈ lw_all := lw_g (lw_at lw_m4 121 rfl) rfl
theorem q932 : (Jvm.Cond.soleField "RiverGauge$Curve" "low") ∈ lw_all := lw_g (lw_at lw_m4 122 rfl) rfl
theorem q933 : (Jvm.Cond.lays "RiverGauge$Curve" "RiverGauge$Curve" "wrong" "I") ∈ lw_all := lw_g (lw_at lw_m4 123 rfl) rfl
theorem q934 : (Jvm.Cond.soleField "RiverGauge$Curve" "wrong") ∈ lw_all := lw_g (lw_at lw_m4 124 rfl) rfl
theorem q935 : (Jvm.Cond.laysFinal "RiverGauge$Curve" "RiverGauge$Curve" "counts" "[I") ∈ lw_all := lw_g (lw_at lw_m4 125 rfl) rfl
theorem q936 : (Jvm.Cond.soleField "RiverGauge$Curve" "counts") ∈ lw_all := lw_g (lw_at lw_m4 126 rfl) rfl
theorem q937 : (Jvm.Cond.laysFinal "RiverGauge$Curve" "RiverGauge$Line" "heights" "[I") ∈ lw_all := lw_g (lw_at lw_m4 127 rfl) rfl
theorem q939 : (Jvm.Cond.laysFinal "RiverGauge$Curve" "RiverGauge$Line" "flows" "[J") ∈ lw_all := lw_g (lw_at lw_m4 129 rfl) rfl
theorem q941 : (Jvm.Cond.lays "RiverGauge$Curve" "RiverGauge$Line" "many" "I") ∈ lw_all := lw_g (lw_at lw_m4 131 rfl) rfl
theorem q943 : (Jvm.Cond.superclass "RiverGauge$Curve" "RiverGauge$Line") ∈ lw_all := lw_g (lw_at lw_m4 133 rfl) rfl
theorem q946 : (Jvm.Cond.instanceMethod ({ cls := "RiverGauge$Curve", name := "add", desc := "(ILRiverGauge$Flow;)V" } : Jvm.MethodName)) ∈ lw_all := lw_g (lw_at lw_m4 136 rfl) rfl
theorem q947 : (Jvm.Cond.selects "RiverGauge$Curve" ({ cls := "RiverGauge$Curve", name := "add", desc := "(ILRiverGauge$Flow;)V" } : Jvm.MethodName) ({ cls := "RiverGauge$Curve", name := "add", desc := "(ILRiverGauge$Flow;)V" } : Jvm.MethodName)) ∈ lw_all := lw_g (lw_at lw_m4 137 rfl) rfl
theorem q948 : (Jvm.Cond.code ({ cls := "RiverGauge$Curve", name := "add", desc := "(ILRiverGauge$Flow;)V" } : Jvm.MethodName) prog_7_method_3_code (5 : Nat) (Option.none : Option Jvm.ClassFile.FieldType)) ∈ lw_all := lw_g (lw_at lw_m4 138 rfl) rfl
theorem q949 : (Jvm.Cond.methodLink "RiverGauge$Curve" (25 : Nat) ({ cls := "java/lang/Math", name := "max", desc := "(II)I" } : Jvm.MethodName)) ∈ lw_all := lw_g (lw_at lw_m4 139 rfl) rfl
theorem q951 : (Jvm.Cond.instanceMethod ({ cls := "RiverGauge$Curve", name := "pool", desc := "()V" } : Jvm.MethodName)) ∈ lw_all := lw_g (lw_at lw_m4 141 rfl) rfl
theorem q952 : (Jvm.Cond.selects "RiverGauge$Curve" ({ cls := "RiverGauge$Curve", name := "pool", desc := "()V" } : Jvm.MethodName) ({ cls := "RiverGauge$Curve", name := "pool", desc := "()V" } : Jvm.MethodName)) ∈ lw_all := lw_g (lw_at lw_m4 142 rfl) rfl
theorem q953 : (Jvm.Cond.code ({ cls := "RiverGauge$Curve", name := "pool", desc := "()V" } : Jvm.MethodName) prog_7_method_4_code (8 : Nat) (Option.none : Option Jvm.ClassFile.FieldType)) ∈ lw_all := lw_g (lw_at lw_m4 143 rfl) rfl
theorem q955 : (Jvm.Cond.sameMethod "RiverGauge$Curve" "RiverGauge$Line" "at" "(I)J") ∈ lw_all := lw_g (lw_at lw_m4 145 rfl) rfl
theorem q957 : (Jvm.Cond.selects "RiverGauge$Curve" ({ cls := "RiverGauge$Curve", name := "at", desc := "(I)J" } : Jvm.MethodName) ({ cls := "RiverGauge$Line", name := "at", desc := "(I)J" } : Jvm.MethodName)) ∈ lw_all := lw_g (lw_at lw_m4 147 rfl) rfl
theorem q970 : (Jvm.Cond.selects "RiverGauge$Curve" ({ cls := "RiverGauge$Line", name := "low", desc := "()I" } : Jvm.MethodName) ({ cls := "RiverGauge$Curve", name := "low", desc := "()I" } : Jvm.MethodName)) ∈ lw_all := lw_g (lw_at lw_m4 160 rfl) rfl
theorem q971 : (Jvm.Cond.instanceMethod ({ cls := "RiverGauge$Curve", name := "low", desc := "()I" } : Jvm.MethodName)) ∈ lw_all := lw_g (lw_at lw_m4 161 rfl) rfl
theorem q972 : (Jvm.Cond.code ({ cls := "RiverGauge$Curve", name := "low", desc := "()I" } : Jvm.MethodName) prog_7_method_2_code (1 : Nat) (Option.some Jvm.ClassFile.FieldType.int)) ∈ lw_all := lw_g (lw_at lw_m4 162 rfl) rfl
theorem q1018 : (Jvm.Cond.sameMethod "RiverGauge$Curve" "RiverGauge$Line" "isBeyond" "(I)Z") ∈ lw_all := lw_g (lw_at lw_m4 208 rfl) rfl
theorem q1020 : (Jvm.Cond.selects "RiverGauge$Curve" ({ cls := "RiverGauge$Curve", name := "isBeyond", desc := "(I)Z" } : Jvm.MethodName) ({ cls := "RiverGauge$Line", name := "isBeyond", desc := "(I)Z" } : Jvm.MethodName)) ∈ lw_all := lw_g (lw_at lw_m4 210 rfl) rfl
theorem in_X22 : ∀ w ∈ wsX220, w ∈ lw_all := lw_in wsX220 [937, 939, 941, 931, 933, 935] (by decide +kernel) (by decide +kernel)

/-! RiverGauge$Cover -/
set_option maxRecDepth 100000
def RX23 : String := "RiverGauge$Cover"
def TX23 : u_T := fun k => match k with
  | 0 => ("RiverGauge$Told", "post", "I", true)
  | 1 => ("RiverGauge$Told", "time", "I", true)
  | 2 => ("RiverGauge$Told", "known", "I", true)
  | 3 => ("RiverGauge$Cover", "kind", "I", true)
  | 4 => ("RiverGauge$Cover", "to", "I", true)
  | _ => ("RiverGauge$Cover", "part", "I", true)
def tyX23 : Nat → FieldType := fun k => match k with
  | 0 => .int
  | 1 => .int
  | 2 => .int
  | 3 => .int
  | 4 => .int
  | _ => .int
abbrev wsX230 : List Cond := u_ws RX23 TX23 6
theorem nmX23 : ∀ a, a < 6 → ∀ b, b < 6 → a ≠ b → (TX23 a).2.1 ≠ (TX23 b).2.1 := by decide +kernel
theorem tyX23_ok : ∀ k, k < 6 → parseFieldDescriptor (TX23 k).2.2.1 = some (tyX23 k) := by decide +kernel
abbrev cX23_init : ByteArray := prog_6_method_1_code
def yX23_init : MethodName := ⟨RX23, "<init>", "(IIIIII)V"⟩
abbrev cX23_partAt : ByteArray := prog_6_method_2_code
def yX23_partAt : MethodName := ⟨RX23, "partAt", "(I)I"⟩
theorem q123 : (Jvm.Cond.initialized "RiverGauge$Cover") ∈ lw_all := lw_g (lw_at lw_m1 33 rfl) rfl
theorem q420 : (Jvm.Cond.sameField "RiverGauge$Cover" "RiverGauge$Told" "post" "I") ∈ lw_all := lw_g (lw_at lw_m2 90 rfl) rfl
theorem q422 : (Jvm.Cond.fieldLink "RiverGauge$Cover" (19 : Nat) "RiverGauge$Cover" "time" "I") ∈ lw_all := lw_g (lw_at lw_m2 92 rfl) rfl
theorem q423 : (Jvm.Cond.sameField "RiverGauge$Cover" "RiverGauge$Told" "time" "I") ∈ lw_all := lw_g (lw_at lw_m2 93 rfl) rfl
theorem q975 : (Jvm.Cond.instantiable "RiverGauge$Cover" (6 : Nat)) ∈ lw_all := lw_g (lw_at lw_m4 165 rfl) rfl
theorem q977 : (Jvm.Cond.instanceMethod ({ cls := "RiverGauge$Cover", name := "<init>", desc := "(IIIIII)V" } : Jvm.MethodName)) ∈ lw_all := lw_g (lw_at lw_m4 167 rfl) rfl
theorem q978 : (Jvm.Cond.code ({ cls := "RiverGauge$Cover", name := "<init>", desc := "(IIIIII)V" } : Jvm.MethodName) prog_6_method_1_code (7 : Nat) (Option.none : Option Jvm.ClassFile.FieldType)) ∈ lw_all := lw_g (lw_at lw_m4 168 rfl) rfl
theorem q979 : (Jvm.Cond.methodLink "RiverGauge$Cover" (1 : Nat) ({ cls := "RiverGauge$Told", name := "<init>", desc := "(III)V" } : Jvm.MethodName)) ∈ lw_all := lw_g (lw_at lw_m4 169 rfl) rfl
theorem q980 : (Jvm.Cond.fieldLink "RiverGauge$Cover" (7 : Nat) "RiverGauge$Cover" "kind" "I") ∈ lw_all := lw_g (lw_at lw_m4 170 rfl) rfl
theorem q982 : (Jvm.Cond.fieldLink "RiverGauge$Cover" (13 : Nat) "RiverGauge$Cover" "to" "I") ∈ lw_all := lw_g (lw_at lw_m4 172 rfl) rfl
theorem q984 : (Jvm.Cond.fieldLink "RiverGauge$Cover" (16 : Nat) "RiverGauge$Cover" "part" "I") ∈ lw_all := lw_g (lw_at lw_m4 174 rfl) rfl
theorem q985 : (Jvm.Cond.laysFinal "RiverGauge$Cover" "RiverGauge$Cover" "kind" "I") ∈ lw_all := lw_g (lw_at lw_m4 175 rfl) rfl
theorem q986 : (Jvm.Cond.soleField "RiverGauge$Cover" "kind") ∈ lw_all := lw_g (lw_at lw_m4 176 rfl) rfl
theorem q987 : (Jvm.Cond.laysFinal "RiverGauge$Cover" "RiverGauge$Cover" "to" "I") ∈ lw_all := lw_g (lw_at lw_m4 177 rfl) rfl
theorem q988 : (Jvm.Cond.soleField "RiverGauge$Cover" "to") ∈ lw_all := lw_g (lw_at lw_m4 178 rfl) rfl
theorem q989 : (Jvm.Cond.laysFinal "RiverGauge$Cover" "RiverGauge$Cover" "part" "I") ∈ lw_all := lw_g (lw_at lw_m4 179 rfl) rfl
theorem q990 : (Jvm.Cond.soleField "RiverGauge$Cover" "part") ∈ lw_all := lw_g (lw_at lw_m4 180 rfl) rfl
theorem q991 : (Jvm.Cond.laysFinal "RiverGauge$Cover" "RiverGauge$Told" "post" "I") ∈ lw_all := lw_g (lw_at lw_m4 181 rfl) rfl
theorem q992 : (Jvm.Cond.laysFinal "RiverGauge$Cover" "RiverGauge$Told" "time" "I") ∈ lw_all := lw_g (lw_at lw_m4 182 rfl) rfl
theorem q993 : (Jvm.Cond.laysFinal "RiverGauge$Cover" "RiverGauge$Told" "known" "I") ∈ lw_all := lw_g (lw_at lw_m4 183 rfl) rfl
theorem q994 : (Jvm.Cond.superclass "RiverGauge$Cover" "RiverGauge$Told") ∈ lw_all := lw_g (lw_at lw_m4 184 rfl) rfl
theorem q1010 : (Jvm.Cond.sameMethod "RiverGauge$Cover" "RiverGauge$Told" "isKnown" "(I)Z") ∈ lw_all := lw_g (lw_at lw_m4 200 rfl) rfl
theorem q1011 : (Jvm.Cond.selects "RiverGauge$Cover" ({ cls := "RiverGauge$Cover", name := "isKnown", desc := "(I)Z" } : Jvm.MethodName) ({ cls := "RiverGauge$Told", name := "isKnown", desc := "(I)Z" } : Jvm.MethodName)) ∈ lw_all := lw_g (lw_at lw_m4 201 rfl) rfl
theorem q1013 : (Jvm.Cond.instanceMethod ({ cls := "RiverGauge$Cover", name := "partAt", desc := "(I)I" } : Jvm.MethodName)) ∈ lw_all := lw_g (lw_at lw_m4 203 rfl) rfl
theorem q1014 : (Jvm.Cond.selects "RiverGauge$Cover" ({ cls := "RiverGauge$Cover", name := "partAt", desc := "(I)I" } : Jvm.MethodName) ({ cls := "RiverGauge$Cover", name := "partAt", desc := "(I)I" } : Jvm.MethodName)) ∈ lw_all := lw_g (lw_at lw_m4 204 rfl) rfl
theorem q1015 : (Jvm.Cond.code ({ cls := "RiverGauge$Cover", name := "partAt", desc := "(I)I" } : Jvm.MethodName) prog_6_method_2_code (2 : Nat) (Option.some Jvm.ClassFile.FieldType.int)) ∈ lw_all := lw_g (lw_at lw_m4 205 rfl) rfl
theorem in_X23 : ∀ w ∈ wsX230, w ∈ lw_all := lw_in wsX230 [991, 992, 993, 985, 987, 989] (by decide +kernel) (by decide +kernel)

/-! RiverGauge$Reckoned -/
set_option maxRecDepth 100000
def RX24 : String := "RiverGauge$Reckoned"
def TX24 : u_T := fun k => match k with
  | 0 => ("RiverGauge$Reckoned", "flow", "I", true)
  | 1 => ("RiverGauge$Reckoned", "wrong", "I", true)
  | 2 => ("RiverGauge$Reckoned", "isBeyond", "Z", true)
  | _ => ("RiverGauge$Reckoned", "isCovered", "Z", true)
def tyX24 : Nat → FieldType := fun k => match k with
  | 0 => .int
  | 1 => .int
  | 2 => .boolean
  | _ => .boolean
abbrev wsX240 : List Cond := u_ws RX24 TX24 4
theorem nmX24 : ∀ a, a < 4 → ∀ b, b < 4 → a ≠ b → (TX24 a).2.1 ≠ (TX24 b).2.1 := by decide +kernel
theorem tyX24_ok : ∀ k, k < 4 → parseFieldDescriptor (TX24 k).2.2.1 = some (tyX24 k) := by decide +kernel
abbrev cX24_init : ByteArray := prog_17_method_1_code
def yX24_init : MethodName := ⟨RX24, "<init>", "(IIZZ)V"⟩
theorem q124 : (Jvm.Cond.initialized "RiverGauge$Reckoned") ∈ lw_all := lw_g (lw_at lw_m1 34 rfl) rfl
theorem q1024 : (Jvm.Cond.instantiable "RiverGauge$Reckoned" (4 : Nat)) ∈ lw_all := lw_g (lw_at lw_m4 214 rfl) rfl
theorem q1030 : (Jvm.Cond.instanceMethod ({ cls := "RiverGauge$Reckoned", name := "<init>", desc := "(IIZZ)V" } : Jvm.MethodName)) ∈ lw_all := lw_g (lw_at lw_m4 220 rfl) rfl
theorem q1031 : (Jvm.Cond.code ({ cls := "RiverGauge$Reckoned", name := "<init>", desc := "(IIZZ)V" } : Jvm.MethodName) prog_17_method_1_code (5 : Nat) (Option.none : Option Jvm.ClassFile.FieldType)) ∈ lw_all := lw_g (lw_at lw_m4 221 rfl) rfl
theorem q1032 : (Jvm.Cond.methodLink "RiverGauge$Reckoned" (1 : Nat) ({ cls := "java/lang/Object", name := "<init>", desc := "()V" } : Jvm.MethodName)) ∈ lw_all := lw_g (lw_at lw_m4 222 rfl) rfl
theorem q1033 : (Jvm.Cond.fieldLink "RiverGauge$Reckoned" (7 : Nat) "RiverGauge$Reckoned" "flow" "I") ∈ lw_all := lw_g (lw_at lw_m4 223 rfl) rfl
theorem q1035 : (Jvm.Cond.fieldLink "RiverGauge$Reckoned" (13 : Nat) "RiverGauge$Reckoned" "wrong" "I") ∈ lw_all := lw_g (lw_at lw_m4 225 rfl) rfl
theorem q1037 : (Jvm.Cond.fieldLink "RiverGauge$Reckoned" (16 : Nat) "RiverGauge$Reckoned" "isBeyond" "Z") ∈ lw_all := lw_g (lw_at lw_m4 227 rfl) rfl
theorem q1039 : (Jvm.Cond.fieldLink "RiverGauge$Reckoned" (20 : Nat) "RiverGauge$Reckoned" "isCovered" "Z") ∈ lw_all := lw_g (lw_at lw_m4 229 rfl) rfl
theorem q1041 : (Jvm.Cond.laysFinal "RiverGauge$Reckoned" "RiverGauge$Reckoned" "flow" "I") ∈ lw_all := lw_g (lw_at lw_m4 231 rfl) rfl
theorem q1042 : (Jvm.Cond.soleField "RiverGauge$Reckoned" "flow") ∈ lw_all := lw_g (lw_at lw_m4 232 rfl) rfl
theorem q1043 : (Jvm.Cond.laysFinal "RiverGauge$Reckoned" "RiverGauge$Reckoned" "wrong" "I") ∈ lw_all := lw_g (lw_at lw_m4 233 rfl) rfl
theorem q1044 : (Jvm.Cond.soleField "RiverGauge$Reckoned" "wrong") ∈ lw_all := lw_g (lw_at lw_m4 234 rfl) rfl
theorem q1045 : (Jvm.Cond.laysFinal "RiverGauge$Reckoned" "RiverGauge$Reckoned" "isBeyond" "Z") ∈ lw_all := lw_g (lw_at lw_m4 235 rfl) rfl
theorem q1046 : (Jvm.Cond.soleField "RiverGauge$Reckoned" "isBeyond") ∈ lw_all := lw_g (lw_at lw_m4 236 rfl) rfl
theorem q1047 : (Jvm.Cond.laysFinal "RiverGauge$Reckoned" "RiverGauge$Reckoned" "isCovered" "Z") ∈ lw_all := lw_g (lw_at lw_m4 237 rfl) rfl
theorem q1048 : (Jvm.Cond.soleField "RiverGauge$Reckoned" "isCovered") ∈ lw_all := lw_g (lw_at lw_m4 238 rfl) rfl
theorem q1049 : (Jvm.Cond.superclass "RiverGauge$Reckoned" "java/lang/Object") ∈ lw_all := lw_g (lw_at lw_m4 239 rfl) rfl
theorem in_X24 : ∀ w ∈ wsX240, w ∈ lw_all := lw_in wsX240 [1041, 1043, 1045, 1047] (by decide +kernel) (by decide +kernel)

/-! RiverGauge$Base -/
set_option maxRecDepth 100000
def RX25 : String := "RiverGauge$Base"
def TX25 : u_T := fun k => match k with
  | 0 => ("RiverGauge$Line", "heights", "[I", true)
  | 1 => ("RiverGauge$Line", "flows", "[J", true)
  | _ => ("RiverGauge$Line", "many", "I", false)
def tyX25 : Nat → FieldType := fun k => match k with
  | 0 => .array .int
  | 1 => .array .long
  | _ => .int
abbrev wsX250 : List Cond := u_ws RX25 TX25 3
theorem nmX25 : ∀ a, a < 3 → ∀ b, b < 3 → a ≠ b → (TX25 a).2.1 ≠ (TX25 b).2.1 := by decide +kernel
theorem tyX25_ok : ∀ k, k < 3 → parseFieldDescriptor (TX25 k).2.2.1 = some (tyX25 k) := by decide +kernel
abbrev cX25_low : ByteArray := prog_3_method_2_code
def yX25_low : MethodName := ⟨RX25, "low", "()I"⟩
abbrev cX25_init : ByteArray := prog_3_method_1_code
def yX25_init : MethodName := ⟨RX25, "<init>", "()V"⟩
theorem q125 : (Jvm.Cond.initialized "RiverGauge$Base") ∈ lw_all := lw_g (lw_at lw_m1 35 rfl) rfl
theorem q918 : (Jvm.Cond.sameField "RiverGauge$Base" "RiverGauge$Line" "heights" "[I") ∈ lw_all := lw_g (lw_at lw_m4 108 rfl) rfl
theorem q924 : (Jvm.Cond.sameField "RiverGauge$Base" "RiverGauge$Line" "flows" "[J") ∈ lw_all := lw_g (lw_at lw_m4 114 rfl) rfl
theorem q930 : (Jvm.Cond.sameField "RiverGauge$Base" "RiverGauge$Line" "many" "I") ∈ lw_all := lw_g (lw_at lw_m4 120 rfl) rfl
theorem q967 : (Jvm.Cond.selects "RiverGauge$Base" ({ cls := "RiverGauge$Line", name := "low", desc := "()I" } : Jvm.MethodName) ({ cls := "RiverGauge$Base", name := "low", desc := "()I" } : Jvm.MethodName)) ∈ lw_all := lw_g (lw_at lw_m4 157 rfl) rfl
theorem q968 : (Jvm.Cond.instanceMethod ({ cls := "RiverGauge$Base", name := "low", desc := "()I" } : Jvm.MethodName)) ∈ lw_all := lw_g (lw_at lw_m4 158 rfl) rfl
theorem q969 : (Jvm.Cond.code ({ cls := "RiverGauge$Base", name := "low", desc := "()I" } : Jvm.MethodName) prog_3_method_2_code (1 : Nat) (Option.some Jvm.ClassFile.FieldType.int)) ∈ lw_all := lw_g (lw_at lw_m4 159 rfl) rfl
theorem q1054 : (Jvm.Cond.instantiable "RiverGauge$Base" (3 : Nat)) ∈ lw_all := lw_g (lw_at lw_m5 4 rfl) rfl
theorem q1056 : (Jvm.Cond.instanceMethod ({ cls := "RiverGauge$Base", name := "<init>", desc := "()V" } : Jvm.MethodName)) ∈ lw_all := lw_g (lw_at lw_m5 6 rfl) rfl
theorem q1057 : (Jvm.Cond.code ({ cls := "RiverGauge$Base", name := "<init>", desc := "()V" } : Jvm.MethodName) prog_3_method_1_code (1 : Nat) (Option.none : Option Jvm.ClassFile.FieldType)) ∈ lw_all := lw_g (lw_at lw_m5 7 rfl) rfl
theorem q1058 : (Jvm.Cond.methodLink "RiverGauge$Base" (3 : Nat) ({ cls := "RiverGauge$Line", name := "<init>", desc := "(I)V" } : Jvm.MethodName)) ∈ lw_all := lw_g (lw_at lw_m5 8 rfl) rfl
theorem q1059 : (Jvm.Cond.laysFinal "RiverGauge$Base" "RiverGauge$Line" "heights" "[I") ∈ lw_all := lw_g (lw_at lw_m5 9 rfl) rfl
theorem q1060 : (Jvm.Cond.laysFinal "RiverGauge$Base" "RiverGauge$Line" "flows" "[J") ∈ lw_all := lw_g (lw_at lw_m5 10 rfl) rfl
theorem q1061 : (Jvm.Cond.lays "RiverGauge$Base" "RiverGauge$Line" "many" "I") ∈ lw_all := lw_g (lw_at lw_m5 11 rfl) rfl
theorem q1062 : (Jvm.Cond.superclass "RiverGauge$Base" "RiverGauge$Line") ∈ lw_all := lw_g (lw_at lw_m5 12 rfl) rfl
theorem q1073 : (Jvm.Cond.sameMethod "RiverGauge$Base" "RiverGauge$Line" "at" "(I)J") ∈ lw_all := lw_g (lw_at lw_m5 23 rfl) rfl
theorem q1074 : (Jvm.Cond.selects "RiverGauge$Base" ({ cls := "RiverGauge$Base", name := "at", desc := "(I)J" } : Jvm.MethodName) ({ cls := "RiverGauge$Line", name := "at", desc := "(I)J" } : Jvm.MethodName)) ∈ lw_all := lw_g (lw_at lw_m5 24 rfl) rfl
theorem in_X25 : ∀ w ∈ wsX250, w ∈ lw_all := lw_in wsX250 [1059, 1060, 1061] (by decide +kernel) (by decide +kernel)

/-! java/lang/Object -/
set_option maxRecDepth 100000
def RJ9 : String := "java/lang/Object"
abbrev cJ9_init : ByteArray := object_method_1_code
def yJ9_init : MethodName := ⟨RJ9, "<init>", "()V"⟩
theorem q132 : (Jvm.Cond.instanceMethod ({ cls := "java/lang/Object", name := "<init>", desc := "()V" } : Jvm.MethodName)) ∈ lw_all := lw_g (lw_at lw_m1 42 rfl) rfl
theorem q133 : (Jvm.Cond.code ({ cls := "java/lang/Object", name := "<init>", desc := "()V" } : Jvm.MethodName) object_method_1_code (1 : Nat) (Option.none : Option Jvm.ClassFile.FieldType)) ∈ lw_all := lw_g (lw_at lw_m1 43 rfl) rfl

/-! the law's own entry -/
set_option maxRecDepth 100000
abbrev cL_law : ByteArray := code

theorem q135 : (Jvm.Cond.arrayOver (Jvm.ClassFile.FieldType.object "RiverGauge$Zero")) ∈ lw_tbl := lw_at lw_m1 45 rfl
set_option maxRecDepth 100000
theorem q137 : (Jvm.Cond.arrayOver (Jvm.ClassFile.FieldType.object "RiverGauge$Height")) ∈ lw_tbl := lw_at lw_m1 47 rfl
theorem q139 : (Jvm.Cond.arrayOver (Jvm.ClassFile.FieldType.object "RiverGauge$Flow")) ∈ lw_tbl := lw_at lw_m1 49 rfl
theorem q141 : (Jvm.Cond.arrayOver (Jvm.ClassFile.FieldType.object "RiverGauge$Standard")) ∈ lw_tbl := lw_at lw_m1 51 rfl
theorem q143 : (Jvm.Cond.arrayOver (Jvm.ClassFile.FieldType.object "RiverGauge$Cover")) ∈ lw_tbl := lw_at lw_m1 53 rfl
theorem q145 : (Jvm.Cond.arrayOver (Jvm.ClassFile.FieldType.array Jvm.ClassFile.FieldType.int)) ∈ lw_tbl := lw_at lw_m1 55 rfl
theorem q147 : (Jvm.Cond.arrayOver (Jvm.ClassFile.FieldType.object "RiverGauge$Base")) ∈ lw_tbl := lw_at lw_m1 57 rfl
theorem q304 : (Jvm.Cond.arrayClass Jvm.ClassFile.FieldType.int) ∈ lw_all := lw_g (lw_at lw_m1 214 rfl) rfl
theorem q305 : (Jvm.Cond.arrayClass Jvm.ClassFile.FieldType.byte) ∈ lw_all := lw_g (lw_at lw_m1 215 rfl) rfl
theorem q306 : (Jvm.Cond.arrayClass Jvm.ClassFile.FieldType.boolean) ∈ lw_all := lw_g (lw_at lw_m1 216 rfl) rfl
theorem q944 : (Jvm.Cond.arrayClass Jvm.ClassFile.FieldType.long) ∈ lw_all := lw_g (lw_at lw_m4 134 rfl) rfl

theorem q90 : (Jvm.Cond.initialized "RiverGaugeLaw") ∈ lw_all := lw_g (lw_at lw_m1 0 rfl) rfl
set_option maxRecDepth 100000
theorem q126 : (Jvm.Cond.classLink "RiverGaugeLaw" (7 : Nat) "RiverGauge") ∈ lw_all := lw_g (lw_at lw_m1 36 rfl) rfl
theorem q128 : (Jvm.Cond.methodLink "RiverGaugeLaw" (9 : Nat) ({ cls := "RiverGauge", name := "<init>", desc := "()V" } : Jvm.MethodName)) ∈ lw_all := lw_g (lw_at lw_m1 38 rfl) rfl
theorem q307 : (Jvm.Cond.methodLink "RiverGaugeLaw" (13 : Nat) ({ cls := "RiverGauge", name := "go", desc := "(I)I" } : Jvm.MethodName)) ∈ lw_all := lw_g (lw_at lw_m1 217 rfl) rfl
theorem q1181 : (Jvm.Cond.methodLink "RiverGaugeLaw" (18 : Nat) ({ cls := "RiverGauge", name := "post", desc := "(I)I" } : Jvm.MethodName)) ∈ lw_all := lw_g (lw_at lw_m5 131 rfl) rfl
theorem q1185 : (Jvm.Cond.methodLink "RiverGaugeLaw" (22 : Nat) ({ cls := "RiverGauge", name := "moved", desc := "(III)I" } : Jvm.MethodName)) ∈ lw_all := lw_g (lw_at lw_m5 135 rfl) rfl
theorem q1189 : (Jvm.Cond.methodLink "RiverGaugeLaw" (27 : Nat) ({ cls := "RiverGauge", name := "zeroAt", desc := "(III)I" } : Jvm.MethodName)) ∈ lw_all := lw_g (lw_at lw_m5 139 rfl) rfl
theorem q1198 : (Jvm.Cond.methodLink "RiverGaugeLaw" (31 : Nat) ({ cls := "RiverGauge", name := "height", desc := "(IIII)I" } : Jvm.MethodName)) ∈ lw_all := lw_g (lw_at lw_m5 148 rfl) rfl
theorem q1202 : (Jvm.Cond.methodLink "RiverGaugeLaw" (36 : Nat) ({ cls := "RiverGauge", name := "strike", desc := "(I)I" } : Jvm.MethodName)) ∈ lw_all := lw_g (lw_at lw_m5 152 rfl) rfl
theorem q1206 : (Jvm.Cond.methodLink "RiverGaugeLaw" (40 : Nat) ({ cls := "RiverGauge", name := "isStruck", desc := "(II)I" } : Jvm.MethodName)) ∈ lw_all := lw_g (lw_at lw_m5 156 rfl) rfl
theorem q1210 : (Jvm.Cond.methodLink "RiverGaugeLaw" (45 : Nat) ({ cls := "RiverGauge", name := "heightAt", desc := "(III)I" } : Jvm.MethodName)) ∈ lw_all := lw_g (lw_at lw_m5 160 rfl) rfl
theorem q1214 : (Jvm.Cond.methodLink "RiverGaugeLaw" (49 : Nat) ({ cls := "RiverGauge", name := "measure", desc := "(IIII)I" } : Jvm.MethodName)) ∈ lw_all := lw_g (lw_at lw_m5 164 rfl) rfl
theorem q1218 : (Jvm.Cond.methodLink "RiverGaugeLaw" (53 : Nat) ({ cls := "RiverGauge", name := "drop", desc := "(I)I" } : Jvm.MethodName)) ∈ lw_all := lw_g (lw_at lw_m5 168 rfl) rfl
theorem q1222 : (Jvm.Cond.methodLink "RiverGaugeLaw" (57 : Nat) ({ cls := "RiverGauge", name := "counts", desc := "(II)I" } : Jvm.MethodName)) ∈ lw_all := lw_g (lw_at lw_m5 172 rfl) rfl
theorem q1226 : (Jvm.Cond.methodLink "RiverGaugeLaw" (63 : Nat) ({ cls := "RiverGauge", name := "feed", desc := "(IJ)I" } : Jvm.MethodName)) ∈ lw_all := lw_g (lw_at lw_m5 176 rfl) rfl
theorem q1234 : (Jvm.Cond.methodLink "RiverGaugeLaw" (68 : Nat) ({ cls := "RiverGauge", name := "standard", desc := "(II)I" } : Jvm.MethodName)) ∈ lw_all := lw_g (lw_at lw_m5 184 rfl) rfl
theorem q1238 : (Jvm.Cond.methodLink "RiverGaugeLaw" (72 : Nat) ({ cls := "RiverGauge", name := "low", desc := "(II)I" } : Jvm.MethodName)) ∈ lw_all := lw_g (lw_at lw_m5 188 rfl) rfl
theorem q1242 : (Jvm.Cond.methodLink "RiverGaugeLaw" (76 : Nat) ({ cls := "RiverGauge", name := "stretch", desc := "(II)I" } : Jvm.MethodName)) ∈ lw_all := lw_g (lw_at lw_m5 192 rfl) rfl
theorem q1246 : (Jvm.Cond.methodLink "RiverGaugeLaw" (80 : Nat) ({ cls := "RiverGauge", name := "points", desc := "(III)I" } : Jvm.MethodName)) ∈ lw_all := lw_g (lw_at lw_m5 196 rfl) rfl
theorem q1250 : (Jvm.Cond.methodLink "RiverGaugeLaw" (84 : Nat) ({ cls := "RiverGauge", name := "point", desc := "(IIIII)I" } : Jvm.MethodName)) ∈ lw_all := lw_g (lw_at lw_m5 200 rfl) rfl
theorem q1254 : (Jvm.Cond.methodLink "RiverGaugeLaw" (89 : Nat) ({ cls := "RiverGauge", name := "flowAt", desc := "(III)I" } : Jvm.MethodName)) ∈ lw_all := lw_g (lw_at lw_m5 204 rfl) rfl
theorem q1258 : (Jvm.Cond.methodLink "RiverGaugeLaw" (93 : Nat) ({ cls := "RiverGauge", name := "under", desc := "(IIIII)I" } : Jvm.MethodName)) ∈ lw_all := lw_g (lw_at lw_m5 208 rfl) rfl
theorem q1262 : (Jvm.Cond.methodLink "RiverGaugeLaw" (97 : Nat) ({ cls := "RiverGauge", name := "flowOf", desc := "(IIII)I" } : Jvm.MethodName)) ∈ lw_all := lw_g (lw_at lw_m5 212 rfl) rfl
theorem q1266 : (Jvm.Cond.methodLink "RiverGaugeLaw" (101 : Nat) ({ cls := "RiverGauge", name := "base", desc := "(IIII)I" } : Jvm.MethodName)) ∈ lw_all := lw_g (lw_at lw_m5 216 rfl) rfl
theorem q1270 : (Jvm.Cond.methodLink "RiverGaugeLaw" (105 : Nat) ({ cls := "RiverGauge", name := "breaks", desc := "(II)I" } : Jvm.MethodName)) ∈ lw_all := lw_g (lw_at lw_m5 220 rfl) rfl
theorem q1274 : (Jvm.Cond.methodLink "RiverGaugeLaw" (109 : Nat) ({ cls := "RiverGauge", name := "shift", desc := "(II)I" } : Jvm.MethodName)) ∈ lw_all := lw_g (lw_at lw_m5 224 rfl) rfl
theorem q1278 : (Jvm.Cond.methodLink "RiverGaugeLaw" (113 : Nat) ({ cls := "RiverGauge", name := "put", desc := "(I)I" } : Jvm.MethodName)) ∈ lw_all := lw_g (lw_at lw_m5 228 rfl) rfl
theorem q1282 : (Jvm.Cond.methodLink "RiverGaugeLaw" (117 : Nat) ({ cls := "RiverGauge", name := "judge", desc := "(I)I" } : Jvm.MethodName)) ∈ lw_all := lw_g (lw_at lw_m5 232 rfl) rfl
theorem q1286 : (Jvm.Cond.methodLink "RiverGaugeLaw" (121 : Nat) ({ cls := "RiverGauge", name := "beside", desc := "(II)I" } : Jvm.MethodName)) ∈ lw_all := lw_g (lw_at lw_m5 236 rfl) rfl
theorem q1290 : (Jvm.Cond.methodLink "RiverGaugeLaw" (125 : Nat) ({ cls := "RiverGauge", name := "gap", desc := "(III)I" } : Jvm.MethodName)) ∈ lw_all := lw_g (lw_at lw_m6 0 rfl) rfl
theorem q1294 : (Jvm.Cond.methodLink "RiverGaugeLaw" (129 : Nat) ({ cls := "RiverGauge", name := "peak", desc := "(IIII)I" } : Jvm.MethodName)) ∈ lw_all := lw_g (lw_at lw_m6 4 rfl) rfl
theorem q1298 : (Jvm.Cond.methodLink "RiverGaugeLaw" (133 : Nat) ({ cls := "RiverGauge", name := "often", desc := "(II)I" } : Jvm.MethodName)) ∈ lw_all := lw_g (lw_at lw_m6 8 rfl) rfl
theorem q1302 : (Jvm.Cond.methodLink "RiverGaugeLaw" (137 : Nat) ({ cls := "RiverGauge", name := "agree", desc := "(IIIII)I" } : Jvm.MethodName)) ∈ lw_all := lw_g (lw_at lw_m6 12 rfl) rfl
theorem q1306 : (Jvm.Cond.methodLink "RiverGaugeLaw" (141 : Nat) ({ cls := "RiverGauge", name := "next", desc := "(I)I" } : Jvm.MethodName)) ∈ lw_all := lw_g (lw_at lw_m6 16 rfl) rfl
theorem q1310 : (Jvm.Cond.methodLink "RiverGaugeLaw" (145 : Nat) ({ cls := "RiverGauge", name := "publish", desc := "(II)I" } : Jvm.MethodName)) ∈ lw_all := lw_g (lw_at lw_m6 20 rfl) rfl
theorem q1314 : (Jvm.Cond.methodLink "RiverGaugeLaw" (149 : Nat) ({ cls := "RiverGauge", name := "published", desc := "(II)I" } : Jvm.MethodName)) ∈ lw_all := lw_g (lw_at lw_m6 24 rfl) rfl
theorem q1318 : (Jvm.Cond.methodLink "RiverGaugeLaw" (153 : Nat) ({ cls := "RiverGauge", name := "mend", desc := "()I" } : Jvm.MethodName)) ∈ lw_all := lw_g (lw_at lw_m6 28 rfl) rfl
theorem q1322 : (Jvm.Cond.methodLink "RiverGaugeLaw" (158 : Nat) ({ cls := "RiverGauge", name := "limit", desc := "(I)I" } : Jvm.MethodName)) ∈ lw_all := lw_g (lw_at lw_m6 32 rfl) rfl
theorem q1326 : (Jvm.Cond.methodLink "RiverGaugeLaw" (162 : Nat) ({ cls := "RiverGauge", name := "count", desc := "(I)I" } : Jvm.MethodName)) ∈ lw_all := lw_g (lw_at lw_m6 36 rfl) rfl
theorem q1332 : (Jvm.Cond.classLink "RiverGaugeLaw" (10 : Nat) "RiverGaugeModel") ∈ lw_all := lw_g (lw_at lw_m6 42 rfl) rfl
theorem q1334 : (Jvm.Cond.methodLink "RiverGaugeLaw" (12 : Nat) ({ cls := "RiverGaugeModel", name := "<init>", desc := "()V" } : Jvm.MethodName)) ∈ lw_all := lw_g (lw_at lw_m6 44 rfl) rfl
theorem q1606 : (Jvm.Cond.methodLink "RiverGaugeLaw" (17 : Nat) ({ cls := "RiverGaugeModel", name := "go", desc := "(I)I" } : Jvm.MethodName)) ∈ lw_all := lw_g (lw_at lw_m7 76 rfl) rfl
theorem q1614 : (Jvm.Cond.methodLink "RiverGaugeLaw" (21 : Nat) ({ cls := "RiverGaugeModel", name := "post", desc := "(I)I" } : Jvm.MethodName)) ∈ lw_all := lw_g (lw_at lw_m7 84 rfl) rfl
theorem q1618 : (Jvm.Cond.methodLink "RiverGaugeLaw" (26 : Nat) ({ cls := "RiverGaugeModel", name := "moved", desc := "(III)I" } : Jvm.MethodName)) ∈ lw_all := lw_g (lw_at lw_m7 88 rfl) rfl
theorem q1626 : (Jvm.Cond.methodLink "RiverGaugeLaw" (30 : Nat) ({ cls := "RiverGaugeModel", name := "zeroAt", desc := "(III)I" } : Jvm.MethodName)) ∈ lw_all := lw_g (lw_at lw_m7 96 rfl) rfl
theorem q1642 : (Jvm.Cond.methodLink "RiverGaugeLaw" (35 : Nat) ({ cls := "RiverGaugeModel", name := "height", desc := "(IIII)I" } : Jvm.MethodName)) ∈ lw_all := lw_g (lw_at lw_m7 112 rfl) rfl
theorem q1646 : (Jvm.Cond.methodLink "RiverGaugeLaw" (39 : Nat) ({ cls := "RiverGaugeModel", name := "strike", desc := "(I)I" } : Jvm.MethodName)) ∈ lw_all := lw_g (lw_at lw_m7 116 rfl) rfl
theorem q1650 : (Jvm.Cond.methodLink "RiverGaugeLaw" (44 : Nat) ({ cls := "RiverGaugeModel", name := "isStruck", desc := "(II)I" } : Jvm.MethodName)) ∈ lw_all := lw_g (lw_at lw_m7 120 rfl) rfl
theorem q1684 : (Jvm.Cond.methodLink "RiverGaugeLaw" (48 : Nat) ({ cls := "RiverGaugeModel", name := "heightAt", desc := "(III)I" } : Jvm.MethodName)) ∈ lw_all := lw_g (lw_at lw_m7 154 rfl) rfl
theorem q1696 : (Jvm.Cond.methodLink "RiverGaugeLaw" (52 : Nat) ({ cls := "RiverGaugeModel", name := "measure", desc := "(IIII)I" } : Jvm.MethodName)) ∈ lw_all := lw_g (lw_at lw_m7 166 rfl) rfl
theorem q1701 : (Jvm.Cond.methodLink "RiverGaugeLaw" (56 : Nat) ({ cls := "RiverGaugeModel", name := "drop", desc := "(I)I" } : Jvm.MethodName)) ∈ lw_all := lw_g (lw_at lw_m7 171 rfl) rfl
theorem q1705 : (Jvm.Cond.methodLink "RiverGaugeLaw" (60 : Nat) ({ cls := "RiverGaugeModel", name := "counts", desc := "(II)I" } : Jvm.MethodName)) ∈ lw_all := lw_g (lw_at lw_m7 175 rfl) rfl
theorem q1713 : (Jvm.Cond.methodLink "RiverGaugeLaw" (67 : Nat) ({ cls := "RiverGaugeModel", name := "feed", desc := "(IJ)I" } : Jvm.MethodName)) ∈ lw_all := lw_g (lw_at lw_m7 183 rfl) rfl
theorem q1718 : (Jvm.Cond.methodLink "RiverGaugeLaw" (71 : Nat) ({ cls := "RiverGaugeModel", name := "standard", desc := "(II)I" } : Jvm.MethodName)) ∈ lw_all := lw_g (lw_at lw_m7 188 rfl) rfl
theorem q1753 : (Jvm.Cond.methodLink "RiverGaugeLaw" (75 : Nat) ({ cls := "RiverGaugeModel", name := "low", desc := "(II)I" } : Jvm.MethodName)) ∈ lw_all := lw_g (lw_at lw_m7 223 rfl) rfl
theorem q1757 : (Jvm.Cond.methodLink "RiverGaugeLaw" (79 : Nat) ({ cls := "RiverGaugeModel", name := "stretch", desc := "(II)I" } : Jvm.MethodName)) ∈ lw_all := lw_g (lw_at lw_m7 227 rfl) rfl
theorem q1761 : (Jvm.Cond.methodLink "RiverGaugeLaw" (83 : Nat) ({ cls := "RiverGaugeModel", name := "points", desc := "(III)I" } : Jvm.MethodName)) ∈ lw_all := lw_g (lw_at lw_m7 231 rfl) rfl
theorem q1777 : (Jvm.Cond.methodLink "RiverGaugeLaw" (88 : Nat) ({ cls := "RiverGaugeModel", name := "point", desc := "(IIIII)I" } : Jvm.MethodName)) ∈ lw_all := lw_g (lw_at lw_m8 7 rfl) rfl
theorem q1781 : (Jvm.Cond.methodLink "RiverGaugeLaw" (92 : Nat) ({ cls := "RiverGaugeModel", name := "flowAt", desc := "(III)I" } : Jvm.MethodName)) ∈ lw_all := lw_g (lw_at lw_m8 11 rfl) rfl
theorem q1791 : (Jvm.Cond.methodLink "RiverGaugeLaw" (96 : Nat) ({ cls := "RiverGaugeModel", name := "under", desc := "(IIIII)I" } : Jvm.MethodName)) ∈ lw_all := lw_g (lw_at lw_m8 21 rfl) rfl
theorem q1795 : (Jvm.Cond.methodLink "RiverGaugeLaw" (100 : Nat) ({ cls := "RiverGaugeModel", name := "flowOf", desc := "(IIII)I" } : Jvm.MethodName)) ∈ lw_all := lw_g (lw_at lw_m8 25 rfl) rfl
theorem q1808 : (Jvm.Cond.methodLink "RiverGaugeLaw" (104 : Nat) ({ cls := "RiverGaugeModel", name := "base", desc := "(IIII)I" } : Jvm.MethodName)) ∈ lw_all := lw_g (lw_at lw_m8 38 rfl) rfl
theorem q1812 : (Jvm.Cond.methodLink "RiverGaugeLaw" (108 : Nat) ({ cls := "RiverGaugeModel", name := "breaks", desc := "(II)I" } : Jvm.MethodName)) ∈ lw_all := lw_g (lw_at lw_m8 42 rfl) rfl
theorem q1843 : (Jvm.Cond.methodLink "RiverGaugeLaw" (112 : Nat) ({ cls := "RiverGaugeModel", name := "shift", desc := "(II)I" } : Jvm.MethodName)) ∈ lw_all := lw_g (lw_at lw_m8 73 rfl) rfl
theorem q1847 : (Jvm.Cond.methodLink "RiverGaugeLaw" (116 : Nat) ({ cls := "RiverGaugeModel", name := "put", desc := "(I)I" } : Jvm.MethodName)) ∈ lw_all := lw_g (lw_at lw_m8 77 rfl) rfl
theorem q1851 : (Jvm.Cond.methodLink "RiverGaugeLaw" (120 : Nat) ({ cls := "RiverGaugeModel", name := "judge", desc := "(I)I" } : Jvm.MethodName)) ∈ lw_all := lw_g (lw_at lw_m8 81 rfl) rfl
theorem q1855 : (Jvm.Cond.methodLink "RiverGaugeLaw" (124 : Nat) ({ cls := "RiverGaugeModel", name := "beside", desc := "(II)I" } : Jvm.MethodName)) ∈ lw_all := lw_g (lw_at lw_m8 85 rfl) rfl
theorem q1859 : (Jvm.Cond.methodLink "RiverGaugeLaw" (128 : Nat) ({ cls := "RiverGaugeModel", name := "gap", desc := "(III)I" } : Jvm.MethodName)) ∈ lw_all := lw_g (lw_at lw_m8 89 rfl) rfl
theorem q1867 : (Jvm.Cond.methodLink "RiverGaugeLaw" (132 : Nat) ({ cls := "RiverGaugeModel", name := "peak", desc := "(IIII)I" } : Jvm.MethodName)) ∈ lw_all := lw_g (lw_at lw_m8 97 rfl) rfl
theorem q1871 : (Jvm.Cond.methodLink "RiverGaugeLaw" (136 : Nat) ({ cls := "RiverGaugeModel", name := "often", desc := "(II)I" } : Jvm.MethodName)) ∈ lw_all := lw_g (lw_at lw_m8 101 rfl) rfl
theorem q1875 : (Jvm.Cond.methodLink "RiverGaugeLaw" (140 : Nat) ({ cls := "RiverGaugeModel", name := "agree", desc := "(IIIII)I" } : Jvm.MethodName)) ∈ lw_all := lw_g (lw_at lw_m8 105 rfl) rfl
theorem q1879 : (Jvm.Cond.methodLink "RiverGaugeLaw" (144 : Nat) ({ cls := "RiverGaugeModel", name := "next", desc := "(I)I" } : Jvm.MethodName)) ∈ lw_all := lw_g (lw_at lw_m8 109 rfl) rfl
theorem q1885 : (Jvm.Cond.methodLink "RiverGaugeLaw" (148 : Nat) ({ cls := "RiverGaugeModel", name := "publish", desc := "(II)I" } : Jvm.MethodName)) ∈ lw_all := lw_g (lw_at lw_m8 115 rfl) rfl
theorem q1889 : (Jvm.Cond.methodLink "RiverGaugeLaw" (152 : Nat) ({ cls := "RiverGaugeModel", name := "published", desc := "(II)I" } : Jvm.MethodName)) ∈ lw_all := lw_g (lw_at lw_m8 119 rfl) rfl
theorem q1893 : (Jvm.Cond.methodLink "RiverGaugeLaw" (157 : Nat) ({ cls := "RiverGaugeModel", name := "mend", desc := "()I" } : Jvm.MethodName)) ∈ lw_all := lw_g (lw_at lw_m8 123 rfl) rfl
theorem q1897 : (Jvm.Cond.methodLink "RiverGaugeLaw" (161 : Nat) ({ cls := "RiverGaugeModel", name := "limit", desc := "(I)I" } : Jvm.MethodName)) ∈ lw_all := lw_g (lw_at lw_m8 127 rfl) rfl
theorem q1901 : (Jvm.Cond.methodLink "RiverGaugeLaw" (165 : Nat) ({ cls := "RiverGaugeModel", name := "count", desc := "(I)I" } : Jvm.MethodName)) ∈ lw_all := lw_g (lw_at lw_m8 131 rfl) rfl
theorem q1905 : (Jvm.Cond.constantLong "RiverGaugeLaw" (61 : Nat) (4294967295 : Int64)) ∈ lw_all := lw_g (lw_at lw_m8 135 rfl) rfl


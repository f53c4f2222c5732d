set_option maxRecDepth 100000
theorem dL_law_815 : decode cL_law 815 = .ok (.iaload, 1) := by decide +kernel
theorem dL_law_816 : decode cL_law 816 = .ok (.aload_n 0, 1) := by decide +kernel
theorem dL_law_817 : decode cL_law 817 = .ok (.iload 4, 2) := by decide +kernel
theorem dL_law_819 : decode cL_law 819 = .ok (.iconst 2, 1) := by decide +kernel
theorem dL_law_820 : decode cL_law 820 = .ok (.iadd, 1) := by decide +kernel
theorem dL_law_821 : decode cL_law 821 = .ok (.iaload, 1) := by decide +kernel
theorem dL_law_822 : decode cL_law 822 = .ok (.aload_n 3, 1) := by decide +kernel
theorem dL_law_823 : decode cL_law 823 = .ok (.invokestatic 124, 3) := by decide +kernel
theorem dL_law_826 : decode cL_law 826 = .ok (.istore 5, 2) := by decide +kernel
theorem dL_law_828 : decode cL_law 828 = .ok (.aload_n 2, 1) := by decide +kernel
theorem dL_law_829 : decode cL_law 829 = .ok (.aload_n 0, 1) := by decide +kernel
theorem dL_law_830 : decode cL_law 830 = .ok (.iload 4, 2) := by decide +kernel
theorem dL_law_832 : decode cL_law 832 = .ok (.iconst 1, 1) := by decide +kernel
theorem dL_law_833 : decode cL_law 833 = .ok (.iadd, 1) := by decide +kernel
theorem dL_law_834 : decode cL_law 834 = .ok (.iaload, 1) := by decide +kernel
theorem dL_law_835 : decode cL_law 835 = .ok (.aload_n 0, 1) := by decide +kernel
theorem dL_law_836 : decode cL_law 836 = .ok (.iload 4, 2) := by decide +kernel
theorem dL_law_838 : decode cL_law 838 = .ok (.iconst 2, 1) := by decide +kernel
theorem dL_law_839 : decode cL_law 839 = .ok (.iadd, 1) := by decide +kernel
theorem dL_law_840 : decode cL_law 840 = .ok (.iaload, 1) := by decide +kernel
theorem dL_law_841 : decode cL_law 841 = .ok (.invokevirtual 126, 3) := by decide +kernel
theorem dL_law_844 : decode cL_law 844 = .ok (.lstore 6, 2) := by decide +kernel
theorem dL_law_846 : decode cL_law 846 = .ok (.aload_n 2, 1) := by decide +kernel
theorem dL_law_847 : decode cL_law 847 = .ok (.invokevirtual 87, 3) := by decide +kernel
theorem dL_law_850 : decode cL_law 850 = .ok (.iload 5, 2) := by decide +kernel
theorem dL_law_852 : decode cL_law 852 = .ok (.if_icmp .eq 5, 3) := by decide +kernel
theorem dL_law_855 : decode cL_law 855 = .ok (.iconst 0, 1) := by decide +kernel
theorem dL_law_856 : decode cL_law 856 = .ok (.ireturn, 1) := by decide +kernel
theorem dL_law_857 : decode cL_law 857 = .ok (.iload 5, 2) := by decide +kernel
theorem dL_law_859 : decode cL_law 859 = .ok (.ifCond .ne 14, 3) := by decide +kernel
theorem dL_law_862 : decode cL_law 862 = .ok (.aload_n 3, 1) := by decide +kernel
theorem dL_law_863 : decode cL_law 863 = .ok (.iconst 0, 1) := by decide +kernel
theorem dL_law_864 : decode cL_law 864 = .ok (.laload, 1) := by decide +kernel
theorem dL_law_865 : decode cL_law 865 = .ok (.lload 6, 2) := by decide +kernel
theorem dL_law_867 : decode cL_law 867 = .ok (.lcmp, 1) := by decide +kernel
theorem dL_law_868 : decode cL_law 868 = .ok (.ifCond .eq 5, 3) := by decide +kernel
theorem dL_law_871 : decode cL_law 871 = .ok (.iconst 0, 1) := by decide +kernel
theorem dL_law_872 : decode cL_law 872 = .ok (.ireturn, 1) := by decide +kernel
theorem dL_law_873 : decode cL_law 873 = .ok (.goto 555, 3) := by decide +kernel
theorem dL_law_876 : decode cL_law 876 = .ok (.aload_n 1, 1) := by decide +kernel
theorem dL_law_877 : decode cL_law 877 = .ok (.aload_n 0, 1) := by decide +kernel
theorem dL_law_878 : decode cL_law 878 = .ok (.iload 4, 2) := by decide +kernel
theorem dL_law_880 : decode cL_law 880 = .ok (.iconst 1, 1) := by decide +kernel
theorem dL_law_881 : decode cL_law 881 = .ok (.iadd, 1) := by decide +kernel
theorem dL_law_882 : decode cL_law 882 = .ok (.iaload, 1) := by decide +kernel
theorem dL_law_883 : decode cL_law 883 = .ok (.aload_n 0, 1) := by decide +kernel
theorem dL_law_884 : decode cL_law 884 = .ok (.iload 4, 2) := by decide +kernel
theorem dL_law_886 : decode cL_law 886 = .ok (.iconst 2, 1) := by decide +kernel
theorem dL_law_887 : decode cL_law 887 = .ok (.iadd, 1) := by decide +kernel
theorem dL_law_888 : decode cL_law 888 = .ok (.iaload, 1) := by decide +kernel
theorem dL_law_889 : decode cL_law 889 = .ok (.aload_n 3, 1) := by decide +kernel
theorem dL_law_890 : decode cL_law 890 = .ok (.invokestatic 127, 3) := by decide +kernel
theorem dL_law_893 : decode cL_law 893 = .ok (.istore 5, 2) := by decide +kernel
theorem dL_law_895 : decode cL_law 895 = .ok (.aload_n 2, 1) := by decide +kernel
theorem dL_law_896 : decode cL_law 896 = .ok (.aload_n 0, 1) := by decide +kernel
theorem dL_law_897 : decode cL_law 897 = .ok (.iload 4, 2) := by decide +kernel
theorem dL_law_899 : decode cL_law 899 = .ok (.iconst 1, 1) := by decide +kernel
theorem dL_law_900 : decode cL_law 900 = .ok (.iadd, 1) := by decide +kernel
theorem dL_law_901 : decode cL_law 901 = .ok (.iaload, 1) := by decide +kernel
theorem dL_law_902 : decode cL_law 902 = .ok (.aload_n 0, 1) := by decide +kernel
theorem dL_law_903 : decode cL_law 903 = .ok (.iload 4, 2) := by decide +kernel
theorem dL_law_905 : decode cL_law 905 = .ok (.iconst 2, 1) := by decide +kernel
theorem dL_law_906 : decode cL_law 906 = .ok (.iadd, 1) := by decide +kernel
theorem dL_law_907 : decode cL_law 907 = .ok (.iaload, 1) := by decide +kernel
theorem dL_law_908 : decode cL_law 908 = .ok (.invokevirtual 129, 3) := by decide +kernel
theorem dL_law_911 : decode cL_law 911 = .ok (.lstore 6, 2) := by decide +kernel
theorem dL_law_913 : decode cL_law 913 = .ok (.aload_n 2, 1) := by decide +kernel
theorem dL_law_914 : decode cL_law 914 = .ok (.invokevirtual 87, 3) := by decide +kernel
theorem dL_law_917 : decode cL_law 917 = .ok (.iload 5, 2) := by decide +kernel
theorem dL_law_919 : decode cL_law 919 = .ok (.if_icmp .eq 5, 3) := by decide +kernel
theorem dL_law_922 : decode cL_law 922 = .ok (.iconst 0, 1) := by decide +kernel
theorem dL_law_923 : decode cL_law 923 = .ok (.ireturn, 1) := by decide +kernel
theorem dL_law_924 : decode cL_law 924 = .ok (.iload 5, 2) := by decide +kernel
theorem dL_law_926 : decode cL_law 926 = .ok (.ifCond .ne 14, 3) := by decide +kernel
theorem dL_law_929 : decode cL_law 929 = .ok (.aload_n 3, 1) := by decide +kernel
theorem dL_law_930 : decode cL_law 930 = .ok (.iconst 0, 1) := by decide +kernel
theorem dL_law_931 : decode cL_law 931 = .ok (.laload, 1) := by decide +kernel
theorem dL_law_932 : decode cL_law 932 = .ok (.lload 6, 2) := by decide +kernel
theorem dL_law_934 : decode cL_law 934 = .ok (.lcmp, 1) := by decide +kernel
theorem dL_law_935 : decode cL_law 935 = .ok (.ifCond .eq 5, 3) := by decide +kernel
theorem dL_law_938 : decode cL_law 938 = .ok (.iconst 0, 1) := by decide +kernel
theorem dL_law_939 : decode cL_law 939 = .ok (.ireturn, 1) := by decide +kernel
theorem dL_law_940 : decode cL_law 940 = .ok (.goto 488, 3) := by decide +kernel
theorem dL_law_943 : decode cL_law 943 = .ok (.aload_n 1, 1) := by decide +kernel
theorem dL_law_944 : decode cL_law 944 = .ok (.aload_n 0, 1) := by decide +kernel
theorem dL_law_945 : decode cL_law 945 = .ok (.iload 4, 2) := by decide +kernel
theorem dL_law_947 : decode cL_law 947 = .ok (.iconst 1, 1) := by decide +kernel
theorem dL_law_948 : decode cL_law 948 = .ok (.iadd, 1) := by decide +kernel
theorem dL_law_949 : decode cL_law 949 = .ok (.iaload, 1) := by decide +kernel
theorem dL_law_950 : decode cL_law 950 = .ok (.aload_n 0, 1) := by decide +kernel
theorem dL_law_951 : decode cL_law 951 = .ok (.iload 4, 2) := by decide +kernel
theorem dL_law_953 : decode cL_law 953 = .ok (.iconst 2, 1) := by decide +kernel
theorem dL_law_954 : decode cL_law 954 = .ok (.iadd, 1) := by decide +kernel
theorem dL_law_955 : decode cL_law 955 = .ok (.iaload, 1) := by decide +kernel
theorem dL_law_956 : decode cL_law 956 = .ok (.aload_n 3, 1) := by decide +kernel
theorem dL_law_957 : decode cL_law 957 = .ok (.invokestatic 130, 3) := by decide +kernel
theorem dL_law_960 : decode cL_law 960 = .ok (.istore 5, 2) := by decide +kernel
theorem dL_law_962 : decode cL_law 962 = .ok (.aload_n 2, 1) := by decide +kernel
theorem dL_law_963 : decode cL_law 963 = .ok (.aload_n 0, 1) := by decide +kernel
theorem dL_law_964 : decode cL_law 964 = .ok (.iload 4, 2) := by decide +kernel
theorem dL_law_966 : decode cL_law 966 = .ok (.iconst 1, 1) := by decide +kernel
theorem dL_law_967 : decode cL_law 967 = .ok (.iadd, 1) := by decide +kernel
theorem dL_law_968 : decode cL_law 968 = .ok (.iaload, 1) := by decide +kernel
theorem dL_law_969 : decode cL_law 969 = .ok (.aload_n 0, 1) := by decide +kernel
theorem dL_law_970 : decode cL_law 970 = .ok (.iload 4, 2) := by decide +kernel
theorem dL_law_972 : decode cL_law 972 = .ok (.iconst 2, 1) := by decide +kernel
theorem dL_law_973 : decode cL_law 973 = .ok (.iadd, 1) := by decide +kernel
theorem dL_law_974 : decode cL_law 974 = .ok (.iaload, 1) := by decide +kernel
theorem dL_law_975 : decode cL_law 975 = .ok (.invokevirtual 132, 3) := by decide +kernel
theorem dL_law_978 : decode cL_law 978 = .ok (.lstore 6, 2) := by decide +kernel
theorem dL_law_980 : decode cL_law 980 = .ok (.aload_n 2, 1) := by decide +kernel
theorem dL_law_981 : decode cL_law 981 = .ok (.invokevirtual 87, 3) := by decide +kernel
theorem dL_law_984 : decode cL_law 984 = .ok (.iload 5, 2) := by decide +kernel
theorem dL_law_986 : decode cL_law 986 = .ok (.if_icmp .eq 5, 3) := by decide +kernel
theorem dL_law_989 : decode cL_law 989 = .ok (.iconst 0, 1) := by decide +kernel
theorem dL_law_990 : decode cL_law 990 = .ok (.ireturn, 1) := by decide +kernel
theorem dL_law_991 : decode cL_law 991 = .ok (.iload 5, 2) := by decide +kernel
theorem dL_law_993 : decode cL_law 993 = .ok (.ifCond .ne 14, 3) := by decide +kernel
theorem dL_law_996 : decode cL_law 996 = .ok (.aload_n 3, 1) := by decide +kernel
theorem dL_law_997 : decode cL_law 997 = .ok (.iconst 0, 1) := by decide +kernel
theorem dL_law_998 : decode cL_law 998 = .ok (.laload, 1) := by decide +kernel
theorem dL_law_999 : decode cL_law 999 = .ok (.lload 6, 2) := by decide +kernel
theorem dL_law_1001 : decode cL_law 1001 = .ok (.lcmp, 1) := by decide +kernel
theorem dL_law_1002 : decode cL_law 1002 = .ok (.ifCond .eq 5, 3) := by decide +kernel
theorem dL_law_1005 : decode cL_law 1005 = .ok (.iconst 0, 1) := by decide +kernel
theorem dL_law_1006 : decode cL_law 1006 = .ok (.ireturn, 1) := by decide +kernel
theorem dL_law_1007 : decode cL_law 1007 = .ok (.goto 421, 3) := by decide +kernel
theorem dL_law_1010 : decode cL_law 1010 = .ok (.aload_n 1, 1) := by decide +kernel
theorem dL_law_1011 : decode cL_law 1011 = .ok (.aload_n 0, 1) := by decide +kernel
theorem dL_law_1012 : decode cL_law 1012 = .ok (.iload 4, 2) := by decide +kernel
theorem dL_law_1014 : decode cL_law 1014 = .ok (.iconst 1, 1) := by decide +kernel
theorem dL_law_1015 : decode cL_law 1015 = .ok (.iadd, 1) := by decide +kernel
theorem dL_law_1016 : decode cL_law 1016 = .ok (.iaload, 1) := by decide +kernel
theorem dL_law_1017 : decode cL_law 1017 = .ok (.aload_n 0, 1) := by decide +kernel
theorem dL_law_1018 : decode cL_law 1018 = .ok (.iload 4, 2) := by decide +kernel
theorem dL_law_1020 : decode cL_law 1020 = .ok (.iconst 2, 1) := by decide +kernel
theorem dL_law_1021 : decode cL_law 1021 = .ok (.iadd, 1) := by decide +kernel
theorem dL_law_1022 : decode cL_law 1022 = .ok (.iaload, 1) := by decide +kernel
theorem dL_law_1023 : decode cL_law 1023 = .ok (.aload_n 0, 1) := by decide +kernel
theorem dL_law_1024 : decode cL_law 1024 = .ok (.iload 4, 2) := by decide +kernel
theorem dL_law_1026 : decode cL_law 1026 = .ok (.iconst 3, 1) := by decide +kernel
theorem dL_law_1027 : decode cL_law 1027 = .ok (.iadd, 1) := by decide +kernel
theorem dL_law_1028 : decode cL_law 1028 = .ok (.iaload, 1) := by decide +kernel
theorem dL_law_1029 : decode cL_law 1029 = .ok (.aload_n 3, 1) := by decide +kernel
theorem dL_law_1030 : decode cL_law 1030 = .ok (.invokestatic 133, 3) := by decide +kernel
theorem dL_law_1033 : decode cL_law 1033 = .ok (.istore 5, 2) := by decide +kernel
theorem dL_law_1035 : decode cL_law 1035 = .ok (.aload_n 2, 1) := by decide +kernel
theorem dL_law_1036 : decode cL_law 1036 = .ok (.aload_n 0, 1) := by decide +kernel
theorem dL_law_1037 : decode cL_law 1037 = .ok (.iload 4, 2) := by decide +kernel
theorem dL_law_1039 : decode cL_law 1039 = .ok (.iconst 1, 1) := by decide +kernel
theorem dL_law_1040 : decode cL_law 1040 = .ok (.iadd, 1) := by decide +kernel
theorem dL_law_1041 : decode cL_law 1041 = .ok (.iaload, 1) := by decide +kernel
theorem dL_law_1042 : decode cL_law 1042 = .ok (.aload_n 0, 1) := by decide +kernel
theorem dL_law_1043 : decode cL_law 1043 = .ok (.iload 4, 2) := by decide +kernel
theorem dL_law_1045 : decode cL_law 1045 = .ok (.iconst 2, 1) := by decide +kernel
theorem dL_law_1046 : decode cL_law 1046 = .ok (.iadd, 1) := by decide +kernel
theorem dL_law_1047 : decode cL_law 1047 = .ok (.iaload, 1) := by decide +kernel
theorem dL_law_1048 : decode cL_law 1048 = .ok (.aload_n 0, 1) := by decide +kernel
theorem dL_law_1049 : decode cL_law 1049 = .ok (.iload 4, 2) := by decide +kernel
theorem dL_law_1051 : decode cL_law 1051 = .ok (.iconst 3, 1) := by decide +kernel
theorem dL_law_1052 : decode cL_law 1052 = .ok (.iadd, 1) := by decide +kernel
theorem dL_law_1053 : decode cL_law 1053 = .ok (.iaload, 1) := by decide +kernel
theorem dL_law_1054 : decode cL_law 1054 = .ok (.invokevirtual 135, 3) := by decide +kernel
theorem dL_law_1057 : decode cL_law 1057 = .ok (.lstore 6, 2) := by decide +kernel
theorem dL_law_1059 : decode cL_law 1059 = .ok (.aload_n 2, 1) := by decide +kernel
theorem dL_law_1060 : decode cL_law 1060 = .ok (.invokevirtual 87, 3) := by decide +kernel
theorem dL_law_1063 : decode cL_law 1063 = .ok (.iload 5, 2) := by decide +kernel
theorem dL_law_1065 : decode cL_law 1065 = .ok (.if_icmp .eq 5, 3) := by decide +kernel
theorem dL_law_1068 : decode cL_law 1068 = .ok (.iconst 0, 1) := by decide +kernel
theorem dL_law_1069 : decode cL_law 1069 = .ok (.ireturn, 1) := by decide +kernel
theorem dL_law_1070 : decode cL_law 1070 = .ok (.iload 5, 2) := by decide +kernel
theorem dL_law_1072 : decode cL_law 1072 = .ok (.ifCond .ne 14, 3) := by decide +kernel
theorem dL_law_1075 : decode cL_law 1075 = .ok (.aload_n 3, 1) := by decide +kernel
theorem dL_law_1076 : decode cL_law 1076 = .ok (.iconst 0, 1) := by decide +kernel
theorem dL_law_1077 : decode cL_law 1077 = .ok (.laload, 1) := by decide +kernel
theorem dL_law_1078 : decode cL_law 1078 = .ok (.lload 6, 2) := by decide +kernel
theorem dL_law_1080 : decode cL_law 1080 = .ok (.lcmp, 1) := by decide +kernel
theorem dL_law_1081 : decode cL_law 1081 = .ok (.ifCond .eq 5, 3) := by decide +kernel
theorem dL_law_1084 : decode cL_law 1084 = .ok (.iconst 0, 1) := by decide +kernel
theorem dL_law_1085 : decode cL_law 1085 = .ok (.ireturn, 1) := by decide +kernel
theorem dL_law_1086 : decode cL_law 1086 = .ok (.goto 342, 3) := by decide +kernel
theorem dL_law_1089 : decode cL_law 1089 = .ok (.aload_n 1, 1) := by decide +kernel
theorem dL_law_1090 : decode cL_law 1090 = .ok (.aload_n 0, 1) := by decide +kernel
theorem dL_law_1091 : decode cL_law 1091 = .ok (.iload 4, 2) := by decide +kernel
theorem dL_law_1093 : decode cL_law 1093 = .ok (.iconst 1, 1) := by decide +kernel
theorem dL_law_1094 : decode cL_law 1094 = .ok (.iadd, 1) := by decide +kernel
theorem dL_law_1095 : decode cL_law 1095 = .ok (.iaload, 1) := by decide +kernel
theorem dL_law_1096 : decode cL_law 1096 = .ok (.aload_n 0, 1) := by decide +kernel
theorem dL_law_1097 : decode cL_law 1097 = .ok (.iload 4, 2) := by decide +kernel
theorem dL_law_1099 : decode cL_law 1099 = .ok (.iconst 2, 1) := by decide +kernel
theorem dL_law_1100 : decode cL_law 1100 = .ok (.iadd, 1) := by decide +kernel
theorem dL_law_1101 : decode cL_law 1101 = .ok (.iaload, 1) := by decide +kernel
theorem dL_law_1102 : decode cL_law 1102 = .ok (.aload_n 0, 1) := by decide +kernel
theorem dL_law_1103 : decode cL_law 1103 = .ok (.iload 4, 2) := by decide +kernel
theorem dL_law_1105 : decode cL_law 1105 = .ok (.iconst 3, 1) := by decide +kernel
theorem dL_law_1106 : decode cL_law 1106 = .ok (.iadd, 1) := by decide +kernel
theorem dL_law_1107 : decode cL_law 1107 = .ok (.iaload, 1) := by decide +kernel
theorem dL_law_1108 : decode cL_law 1108 = .ok (.aload_n 3, 1) := by decide +kernel
theorem dL_law_1109 : decode cL_law 1109 = .ok (.invokestatic 136, 3) := by decide +kernel
theorem dL_law_1112 : decode cL_law 1112 = .ok (.istore 5, 2) := by decide +kernel
theorem dL_law_1114 : decode cL_law 1114 = .ok (.aload_n 2, 1) := by decide +kernel
theorem dL_law_1115 : decode cL_law 1115 = .ok (.aload_n 0, 1) := by decide +kernel
theorem dL_law_1116 : decode cL_law 1116 = .ok (.iload 4, 2) := by decide +kernel
theorem dL_law_1118 : decode cL_law 1118 = .ok (.iconst 1, 1) := by decide +kernel
theorem dL_law_1119 : decode cL_law 1119 = .ok (.iadd, 1) := by decide +kernel
theorem dL_law_1120 : decode cL_law 1120 = .ok (.iaload, 1) := by decide +kernel
theorem dL_law_1121 : decode cL_law 1121 = .ok (.aload_n 0, 1) := by decide +kernel
theorem dL_law_1122 : decode cL_law 1122 = .ok (.iload 4, 2) := by decide +kernel
theorem dL_law_1124 : decode cL_law 1124 = .ok (.iconst 2, 1) := by decide +kernel
theorem dL_law_1125 : decode cL_law 1125 = .ok (.iadd, 1) := by decide +kernel
theorem dL_law_1126 : decode cL_law 1126 = .ok (.iaload, 1) := by decide +kernel
theorem dL_law_1127 : decode cL_law 1127 = .ok (.aload_n 0, 1) := by decide +kernel
theorem dL_law_1128 : decode cL_law 1128 = .ok (.iload 4, 2) := by decide +kernel
theorem dL_law_1130 : decode cL_law 1130 = .ok (.iconst 3, 1) := by decide +kernel
theorem dL_law_1131 : decode cL_law 1131 = .ok (.iadd, 1) := by decide +kernel
theorem dL_law_1132 : decode cL_law 1132 = .ok (.iaload, 1) := by decide +kernel
theorem dL_law_1133 : decode cL_law 1133 = .ok (.invokevirtual 138, 3) := by decide +kernel
theorem dL_law_1136 : decode cL_law 1136 = .ok (.istore 6, 2) := by decide +kernel
theorem dL_law_1138 : decode cL_law 1138 = .ok (.aload_n 2, 1) := by decide +kernel
theorem dL_law_1139 : decode cL_law 1139 = .ok (.invokevirtual 87, 3) := by decide +kernel
theorem dL_law_1142 : decode cL_law 1142 = .ok (.iload 5, 2) := by decide +kernel
theorem dL_law_1144 : decode cL_law 1144 = .ok (.if_icmp .eq 5, 3) := by decide +kernel
theorem dL_law_1147 : decode cL_law 1147 = .ok (.iconst 0, 1) := by decide +kernel
theorem dL_law_1148 : decode cL_law 1148 = .ok (.ireturn, 1) := by decide +kernel
theorem dL_law_1149 : decode cL_law 1149 = .ok (.iload 5, 2) := by decide +kernel
theorem dL_law_1151 : decode cL_law 1151 = .ok (.ifCond .ne 15, 3) := by decide +kernel
theorem dL_law_1154 : decode cL_law 1154 = .ok (.aload_n 3, 1) := by decide +kernel
theorem dL_law_1155 : decode cL_law 1155 = .ok (.iconst 0, 1) := by decide +kernel
theorem dL_law_1156 : decode cL_law 1156 = .ok (.laload, 1) := by decide +kernel
theorem dL_law_1157 : decode cL_law 1157 = .ok (.iload 6, 2) := by decide +kernel
theorem dL_law_1159 : decode cL_law 1159 = .ok (.i2l, 1) := by decide +kernel
theorem dL_law_1160 : decode cL_law 1160 = .ok (.lcmp, 1) := by decide +kernel
theorem dL_law_1161 : decode cL_law 1161 = .ok (.ifCond .eq 5, 3) := by decide +kernel
theorem dL_law_1164 : decode cL_law 1164 = .ok (.iconst 0, 1) := by decide +kernel
theorem dL_law_1165 : decode cL_law 1165 = .ok (.ireturn, 1) := by decide +kernel
theorem dL_law_1166 : decode cL_law 1166 = .ok (.goto 262, 3) := by decide +kernel
theorem dL_law_1169 : decode cL_law 1169 = .ok (.aload_n 1, 1) := by decide +kernel
theorem dL_law_1170 : decode cL_law 1170 = .ok (.aload_n 0, 1) := by decide +kernel
theorem dL_law_1171 : decode cL_law 1171 = .ok (.iload 4, 2) := by decide +kernel
theorem dL_law_1173 : decode cL_law 1173 = .ok (.iconst 1, 1) := by decide +kernel
theorem dL_law_1174 : decode cL_law 1174 = .ok (.iadd, 1) := by decide +kernel
theorem dL_law_1175 : decode cL_law 1175 = .ok (.iaload, 1) := by decide +kernel
theorem dL_law_1176 : decode cL_law 1176 = .ok (.aload_n 0, 1) := by decide +kernel
theorem dL_law_1177 : decode cL_law 1177 = .ok (.iload 4, 2) := by decide +kernel
theorem dL_law_1179 : decode cL_law 1179 = .ok (.iconst 2, 1) := by decide +kernel
theorem dL_law_1180 : decode cL_law 1180 = .ok (.iadd, 1) := by decide +kernel
theorem dL_law_1181 : decode cL_law 1181 = .ok (.iaload, 1) := by decide +kernel
theorem dL_law_1182 : decode cL_law 1182 = .ok (.aload_n 0, 1) := by decide +kernel
theorem dL_law_1183 : decode cL_law 1183 = .ok (.iload 4, 2) := by decide +kernel
theorem dL_law_1185 : decode cL_law 1185 = .ok (.iconst 3, 1) := by decide +kernel
